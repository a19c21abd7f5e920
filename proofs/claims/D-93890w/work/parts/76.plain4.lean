/-! PLAIN: hand over hand, in X's words (relative, 250 turns) and in the Model's (99 turns) (hand-written) -/
set_option maxRecDepth 100000
def bfX (now : Nat → Int32) (b0 : Int32) (m : Nat) : Nat → Int32
  | 0 => b0
  | l + 1 => if l = m then bfX now b0 m l else mxC (bfX now b0 m l) (now l)
def thX (now : Nat → Int32) (b0 : Int32) (fr : Nat → Int32) (n m : Nat) : Int32 := if bfX now b0 m n = -1 then -1 else if fr m = 0 then -1 else bfX now b0 m n + fr m
def msX (now : Nat → Int32) (b0 : Int32) (fr : Nat → Int32) (n : Nat) : Nat → Int32
  | 0 => -1
  | m + 1 => mxC (msX now b0 fr n m) (thX now b0 fr n m)
def hoL (fr : Nat → Int32) (n : Nat) (far : Int32) : Nat → Nat → (Nat → Int32) → Int32 → Int32
  | 0, _, _, _ => -1
  | c + 1, k, now, b0 => if msX now b0 fr n n < far then hoL fr n far c (k + 1) (thX now b0 fr n) (-1) else nI k
theorem bfX_c {now now' : Nat → Int32} {b0 : Int32} {m : Nat} : ∀ l, (∀ i, i < l → now i = now' i) → bfX now b0 m l = bfX now' b0 m l
  | 0, _ => rfl
  | l + 1, h => by rw [bfX, bfX, bfX_c l (fun i hi => h i (by omega)), h l (by omega)]
theorem thX_c {now now' : Nat → Int32} {b0 : Int32} {fr : Nat → Int32} {n m : Nat} (h : ∀ i, i < n → now i = now' i) : thX now b0 fr n m = thX now' b0 fr n m := by rw [thX, thX, bfX_c n h]
theorem msX_c {now now' : Nat → Int32} {b0 : Int32} {fr : Nat → Int32} {n : Nat} (h : ∀ i, i < n → now i = now' i) : ∀ m, msX now b0 fr n m = msX now' b0 fr n m
  | 0 => rfl
  | m + 1 => by rw [msX, msX, msX_c h m, thX_c h]
theorem hoL_c {fr : Nat → Int32} {n : Nat} {far : Int32} : ∀ (c k : Nat) (now now' : Nat → Int32) (b0 : Int32), (∀ i, i < n → now i = now' i) → hoL fr n far c k now b0 = hoL fr n far c k now' b0
  | 0, _, _, _, _, _ => rfl
  | c + 1, k, now, now', b0, h => by
    rw [hoL, hoL, msX_c h, hoL_c c (k + 1) _ (thX now' b0 fr n) (-1) (fun i _ => thX_c h)]
theorem bf_ch {now : Nat → Int32} {b0 : Int32} {m : Nat} : ∀ l, (b0.toInt ≤ (bfX now b0 m l).toInt ∧ ∀ i, i < l → i ≠ m → (now i).toInt ≤ (bfX now b0 m l).toInt) ∧ (bfX now b0 m l = b0 ∨ ∃ i, i < l ∧ i ≠ m ∧ bfX now b0 m l = now i)
  | 0 => ⟨⟨Int.le_refl _, fun i hi => absurd hi (by omega)⟩, Or.inl rfl⟩
  | l + 1 => by
    obtain ⟨⟨a, b⟩, c⟩ := bf_ch (now := now) (b0 := b0) (m := m) l
    rw [bfX]
    by_cases e : l = m
    · rw [if_pos e]
      refine ⟨⟨a, fun i hi hne => b i (by omega) hne⟩, ?_⟩
      rcases c with c | ⟨i, c1, c2, c3⟩
      · exact Or.inl c
      · exact Or.inr ⟨i, by omega, c2, c3⟩
    · rw [if_neg e]
      have mx := mx_i (bfX now b0 m l) (now l)
      refine ⟨⟨?_, fun i hi hne => ?_⟩, ?_⟩
      · split at mx <;> omega
      · by_cases q : i = l
        · subst q; split at mx <;> omega
        · have := b i (by omega) hne
          split at mx <;> omega
      · unfold mxC
        split
        · exact Or.inr ⟨l, by omega, e, rfl⟩
        · rcases c with c | ⟨i, c1, c2, c3⟩
          · exact Or.inl c
          · exact Or.inr ⟨i, by omega, c2, c3⟩
theorem hv_ch {now : Nat → Int32} {f : Int32} {m : Nat} : ∀ l, (hvF now f m l = -1 ∨ ∃ i, i < l ∧ i ≠ m ∧ ¬ now i = -1 ∧ hvF now f m l = now i + f) ∧ ∀ i, i < l → i ≠ m → ¬ now i = -1 → (now i + f).toInt ≤ (hvF now f m l).toInt
  | 0 => ⟨Or.inl rfl, fun i hi => absurd hi (by omega)⟩
  | l + 1 => by
    obtain ⟨a, b⟩ := hv_ch (now := now) (f := f) (m := m) l
    rw [hvF]
    by_cases e : l = m ∨ now l = -1
    · rw [cI_t e]
      refine ⟨?_, fun i hi hne hn => ?_⟩
      · rcases a with a | ⟨i, a1, a2, a3, a4⟩
        · exact Or.inl a
        · exact Or.inr ⟨i, by omega, a2, a3, a4⟩
      · by_cases q : i = l
        · subst q; exact absurd e (by rintro (z | z); exact hne z; exact hn z)
        · exact b i (by omega) hne hn
    · rw [cI_f e]
      have mx := mx_i (hvF now f m l) (now l + f)
      refine ⟨?_, fun i hi hne hn => ?_⟩
      · unfold mxC
        split
        · exact Or.inr ⟨l, by omega, fun z => e (Or.inl z), fun z => e (Or.inr z), rfl⟩
        · rcases a with a | ⟨i, a1, a2, a3, a4⟩
          · exact Or.inl a
          · exact Or.inr ⟨i, by omega, a2, a3, a4⟩
      · by_cases q : i = l
        · subst q; split at mx <;> omega
        · have := b i (by omega) hne hn
          split at mx <;> omega
theorem ms_ch {now : Nat → Int32} {b0 : Int32} {fr : Nat → Int32} {n : Nat} : ∀ m, (∀ i, i < m → (thX now b0 fr n i).toInt ≤ (msX now b0 fr n m).toInt) ∧ (msX now b0 fr n m = -1 ∨ ∃ i, i < m ∧ msX now b0 fr n m = thX now b0 fr n i)
  | 0 => ⟨fun i hi => absurd hi (by omega), Or.inl rfl⟩
  | m + 1 => by
    obtain ⟨a, b⟩ := ms_ch (now := now) (b0 := b0) (fr := fr) (n := n) m
    rw [msX]
    have mx := mx_i (msX now b0 fr n m) (thX now b0 fr n m)
    refine ⟨fun i hi => ?_, ?_⟩
    · by_cases q : i = m
      · subst q; split at mx <;> omega
      · have := a i (by omega)
        split at mx <;> omega
    · unfold mxC
      split
      · exact Or.inr ⟨m, by omega, rfl⟩
      · rcases b with b | ⟨i, b1, b2⟩
        · exact Or.inl b
        · exact Or.inr ⟨i, by omega, b2⟩
/-- the two views of who has it how far -/
def hoR (n : Nat) (base lo : Int) (now : Nat → Int32) (b0 : Int32) (nw : Nat → Int32) : Prop :=
  (∀ l, l < n → (now l = -1 ∧ nw l = -1) ∨ (lo ≤ (now l).toInt ∧ 0 ≤ (now l).toInt ∧ (now l).toInt ≤ 98 ∧ (nw l).toInt = (now l).toInt + base)) ∧ (∀ l, n ≤ l → l < 8 → nw l = -1) ∧ ((b0 = -1 ∧ nw 8 = -1) ∨ (b0 = 0 ∧ lo = 0 ∧ (nw 8).toInt = base))
theorem m1_i {x : Int32} : x = -1 ↔ x.toInt = -1 := by rw [i_eq, c_m1]
theorem bf_rg {n : Nat} {base lo : Int} {now : Nat → Int32} {b0 : Int32} {nw : Nat → Int32} (h : hoR n base lo now b0 nw) (m : Nat) : bfX now b0 m n = -1 ∨ (lo ≤ (bfX now b0 m n).toInt ∧ 0 ≤ (bfX now b0 m n).toInt ∧ (bfX now b0 m n).toInt ≤ 98) := by
  obtain ⟨h1, -, h3⟩ := h
  rcases (bf_ch (now := now) (b0 := b0) (m := m) n).2 with e | ⟨i, hi, -, e⟩
  · rcases h3 with ⟨q, -⟩ | ⟨q, l0, -⟩
    · exact Or.inl (e.trans q)
    · right; rw [e, q, c_0]; omega
  · rcases h1 i hi with ⟨q, -⟩ | ⟨q1, q2, q3, -⟩
    · exact Or.inl (e.trans q)
    · right; rw [e]; exact ⟨q1, q2, q3⟩
section
variable {n : Nat} {base lo : Int} {now nw fr : Nat → Int32} {b0 : Int32} (hn : n ≤ 8) (hb : 0 ≤ base ∧ base ≤ 99) (hf : ∀ m, m < n → bd (fr m) 0 60)
theorem hv_bf (hn : n ≤ 8) (hb : 0 ≤ base ∧ base ≤ 99) (h : hoR n base lo now b0 nw) {m : Nat} (hm : m < n) {f : Int32} (hf : bd f 0 60) : (bfX now b0 m n = -1 ∧ hvF nw f m 9 = -1) ∨ (0 ≤ (bfX now b0 m n).toInt ∧ (hvF nw f m 9).toInt = (bfX now b0 m n).toInt + base + f.toInt) := by
  obtain ⟨⟨b1, b2⟩, b3⟩ := bf_ch (now := now) (b0 := b0) (m := m) n
  obtain ⟨v1, v2⟩ := hv_ch (now := nw) (f := f) (m := m) 9
  have rg := bf_rg h m
  obtain ⟨h1, h2, h3⟩ := h
  -- a candidate of the Model comes from one of X
  have cand : ∀ i, i < 9 → i ≠ m → ¬ nw i = -1 → ∃ c : Int, 0 ≤ c ∧ c ≤ 98 ∧ (nw i).toInt = c + base ∧ c ≤ (bfX now b0 m n).toInt := by
    intro i hi hne hno
    by_cases q : i < n
    · rcases h1 i q with ⟨-, z⟩ | ⟨z1, z2, z3, z4⟩
      · exact absurd z hno
      · exact ⟨(now i).toInt, z2, z3, z4, b2 i q hne⟩
    · by_cases q8 : i = 8
      · subst q8
        rcases h3 with ⟨-, z⟩ | ⟨z, -, z2⟩
        · exact absurd z hno
        · refine ⟨0, by omega, by omega, by omega, ?_⟩
          have z0 : b0.toInt = 0 := by rw [z, c_0]
          omega
      · exact absurd (h2 i (by omega) (by omega)) hno
  have addi : ∀ i, ∀ c : Int, 0 ≤ c → c ≤ 98 → (nw i).toInt = c + base → (nw i + f).toInt = c + base + f.toInt := fun i c c1 c2 c3 => by
    rw [i_add (by have := hf.1; omega) (by have := hf.2; omega), c3]
  rcases rg with rg | ⟨r1, r2, r3⟩
  · left
    refine ⟨rg, ?_⟩
    rcases v1 with v | ⟨i, i1, i2, i3, i4⟩
    · exact v
    · obtain ⟨c, c1, c2, c3, c4⟩ := cand i i1 i2 i3
      rw [rg, c_m1] at c4
      omega
  · right
    refine ⟨r2, ?_⟩
    -- one that reaches it
    have hit : ∃ i, i < 9 ∧ i ≠ m ∧ ¬ nw i = -1 ∧ (nw i).toInt = (bfX now b0 m n).toInt + base := by
      rcases b3 with e | ⟨i, hi, hne, e⟩
      · rcases h3 with ⟨z, -⟩ | ⟨z, -, z2⟩
        · rw [e, z, c_m1] at r2; omega
        · refine ⟨8, by omega, by omega, fun q => ?_, ?_⟩
          · rw [q, c_m1] at z2; omega
          · rw [e, z, c_0, z2]; omega
      · rcases h1 i hi with ⟨z, -⟩ | ⟨z1, z2, z3, z4⟩
        · rw [e, z, c_m1] at r2; omega
        · exact ⟨i, by omega, hne, fun q => by rw [q, c_m1] at z4; omega, by rw [e, z4]⟩
    obtain ⟨i, i1, i2, i3, i4⟩ := hit
    have lo1 := v2 i i1 i2 i3
    rw [addi i _ r2 r3 i4] at lo1
    rcases v1 with v | ⟨j, j1, j2, j3, j4⟩
    · rw [v, c_m1] at lo1; have := hf.1; omega
    · obtain ⟨c, c1, c2, c3, c4⟩ := cand j j1 j2 j3
      rw [j4, addi j c c1 c2 c3] at lo1 ⊢
      omega
theorem th_rel (hn : n ≤ 8) (hb : 0 ≤ base ∧ base ≤ 99) (hf : ∀ m, m < n → bd (fr m) 0 60) (h : hoR n base lo now b0 nw) {m : Nat} (hm : m < n) : (thX now b0 fr n m = -1 ∧ thnC nw fr n m = -1) ∨ (lo + 1 ≤ (thX now b0 fr n m).toInt ∧ 0 ≤ (thX now b0 fr n m).toInt ∧ (thX now b0 fr n m).toInt ≤ 158 ∧ (thnC nw fr n m).toInt = (thX now b0 fr n m).toInt + base) := by
  have k := hv_bf hn hb h hm (hf m hm)
  have rg := bf_rg h m
  have f1 := hf m hm
  unfold thX thnC
  by_cases z : fr m = 0
  · left
    rw [cI_f (fun q => q.2 z)]
    refine ⟨?_, rfl⟩
    split
    · rfl
    · first | rfl | rw [if_pos z]
  · rw [cI_t ⟨hm, z⟩]
    rcases k with ⟨k1, k2⟩ | ⟨k1, k2⟩
    · left; rw [if_pos k1]; exact ⟨rfl, k2⟩
    · right
      have ne : ¬ bfX now b0 m n = -1 := fun q => by rw [q, c_m1] at k1; omega
      rw [if_neg ne, if_neg z]
      rcases rg with rg | ⟨r1, r2, r3⟩
      · exact absurd rg ne
      · have z1 : 1 ≤ (fr m).toInt := by
          have : (fr m).toInt ≠ 0 := fun q => z (by rw [i_eq, c_0]; exact q)
          have := f1.1
          omega
        have e := i_add (x := bfX now b0 m n) (y := fr m) (by omega) (by have := f1.2; omega)
        rw [e, k2]
        have := f1.2
        omega
/-- nothing comes of nothing -/
theorem ho_no (far : Int32) (h0 : 0 ≤ far.toInt) : ∀ (c k : Nat) (now : Nat → Int32), (∀ l, l < n → now l = -1) → hoL fr n far c k now (-1) = -1
  | 0, _, _, _ => rfl
  | c + 1, k, now, h => by
    have hb : ∀ m l, l ≤ n → bfX now (-1) m l = -1 := fun m l hl => by
      rcases (bf_ch (now := now) (b0 := -1) (m := m) l).2 with e | ⟨i, hi, -, e⟩
      · exact e
      · rw [e]; exact h i (by omega)
    have ht : ∀ m, thX now (-1) fr n m = -1 := fun m => by rw [thX, if_pos (hb m n (Nat.le_refl _))]
    have hm : msX now (-1) fr n n = -1 := by
      rcases (ms_ch (now := now) (b0 := -1) (fr := fr) (n := n) n).2 with e | ⟨i, -, e⟩
      · exact e
      · rw [e]; exact ht i
    rw [hoL, if_pos (by rw [hm, i_lt, c_m1]; omega)]
    exact ho_no far h0 c (k + 1) _ (fun l _ => ht l)
/-- 250 turns of X's are 99 of the Model's -/
theorem ho_eq (hn : n ≤ 8) (hb : 0 ≤ base ∧ base ≤ 99) (hf : ∀ m, m < n → bd (fr m) 0 60) {p far : Int32} (hp : far.toInt = p.toInt - base) (h1 : 1 ≤ far.toInt) (h99 : far.toInt ≤ 99) : ∀ (c k : Nat) (now nw : Nat → Int32) (b0 : Int32), k + c = 100 → 1 ≤ k → (1 < k → b0 = -1) → hoR n base (k - 1 : Nat) now b0 nw → (∀ l, l < n → (now l).toInt < far.toInt) → hoL fr n far (c + 151) k now b0 = hanL fr n p c k nw
  | 0, k, now, nw, b0, hk, hk1, hb0, hR, hlt => by
    rw [hanL, hb0 (by omega)]
    refine ho_no far (by omega) _ _ _ (fun l hl => ?_)
    rcases hR.1 l hl with ⟨q, -⟩ | ⟨q1, -⟩
    · exact q
    · have := hlt l hl
      omega
  | c + 1, k, now, nw, b0, hk, hk1, hb0, hR, hlt => by
    have tr := fun m (hm : m < n) => th_rel hn hb hf hR hm
    obtain ⟨m1, m2⟩ := ms_ch (now := now) (b0 := b0) (fr := fr) (n := n) n
    rw [show c + 1 + 151 = (c + 151) + 1 by omega, hoL, hanL]
    have hiff : msX now b0 fr n n < far ↔ ¬ ∃ m, m < n ∧ ¬ thnC nw fr n m < p := by
      rw [i_lt]
      constructor
      · rintro h ⟨m, hm, hno⟩
        have a := m1 m hm
        rw [i_lt] at hno
        rcases tr m hm with ⟨-, t2⟩ | ⟨-, t2, t3, t4⟩
        · rw [t2, c_m1] at hno; omega
        · omega
      · intro h
        rcases m2 with e | ⟨i, hi, e⟩
        · rw [e, c_m1]; omega
        · rw [e]
          apply Classical.byContradiction
          intro hno
          refine h ⟨i, hi, ?_⟩
          rw [i_lt]
          rcases tr i hi with ⟨t1, -⟩ | ⟨-, t2, t3, t4⟩
          · rw [t1, c_m1] at hno; omega
          · omega
    by_cases g : msX now b0 fr n n < far
    · rw [if_pos g, cI_f (hiff.mp g)]
      have g' := i_lt.mp g
      refine ho_eq hn hb hf hp h1 h99 c (k + 1) _ _ (-1) (by omega) (by omega) (fun _ => rfl) ⟨fun l hl => ?_, fun l h1 h2 => ?_, Or.inl ⟨rfl, ?_⟩⟩ (fun l hl => ?_)
      · rcases tr l hl with t | ⟨t1, t2, t3, t4⟩
        · exact Or.inl t
        · have := m1 l hl
          exact Or.inr ⟨by omega, t2, by omega, t4⟩
      · unfold thnC; rw [cI_f (fun q => by omega)]
      · unfold thnC; rw [cI_f (fun q => by omega)]
      · have := m1 l hl
        omega
    · rw [if_neg g, cI_t (Classical.not_not.mp (fun q => g (hiff.mpr q)))]
end
/-- as both begin -/
theorem ho_start {n : Nat} (hn : n ≤ 8) {had st : Int32} (hh : -1 ≤ had.toInt ∧ had.toInt < n) (hs : 0 ≤ st.toInt) : hoR n st.toInt 0 (fun m => if nI m = had then 0 else -1) (if had = -1 then 0 else -1) (now0 had st) := by
  by_cases c : had = -1
  · subst c
    refine ⟨fun l hl => Or.inl ⟨?_, ?_⟩, fun l h1 h2 => ?_, Or.inr ⟨if_pos rfl, rfl, ?_⟩⟩
    · show (if nI l = -1 then (0 : Int32) else -1) = -1
      rw [if_neg (fun q => by have := congrArg Int32.toInt q; rw [nI_toInt (by omega), c_m1] at this; omega)]
    · unfold now0; rw [if_pos rfl, if_neg (by omega)]
    · unfold now0; rw [if_pos rfl, if_neg (by omega)]
    · unfold now0; rw [if_pos rfl, if_pos rfl]
  · obtain ⟨h, hh2, rfl⟩ := nI_of (x := had) (by
      rw [i_lt, c_0]
      have : had.toInt ≠ -1 := fun q => c (m1_i.mpr q)
      omega)
    rw [nI_toInt hh2] at hh
    have ix : Int32.toNatClampNeg (nI h) = h := ix_nI hh2
    refine ⟨fun l hl => ?_, fun l h1 h2 => ?_, Or.inl ⟨if_neg c, ?_⟩⟩
    · by_cases e : l = h
      · subst e
        right
        show (0 : Int) ≤ (if nI l = nI l then (0 : Int32) else -1).toInt ∧ 0 ≤ (if nI l = nI l then (0 : Int32) else -1).toInt ∧ (if nI l = nI l then (0 : Int32) else -1).toInt ≤ 98 ∧ (now0 (nI l) st l).toInt = (if nI l = nI l then (0 : Int32) else -1).toInt + st.toInt
        unfold now0
        rw [if_pos rfl, if_neg c, ix, if_pos rfl, c_0]
        omega
      · left
        refine ⟨if_neg (fun q => e ?_), ?_⟩
        · have := congrArg Int32.toNatClampNeg q
          rwa [ix_nI (by omega), ix] at this
        · unfold now0; rw [if_neg c, ix, if_neg e]
    · unfold now0; rw [if_neg c, ix, if_neg (by omega)]
    · unfold now0; rw [if_neg c, ix, if_neg (by omega)]
