/-! WHAT ALWAYS HOLDS OF THE STATE STAYS SO, call by call (hand-written) -/
set_option maxRecDepth 100000
section
variable {σ τ : cS}
theorem OkW.u14 (h : OkW σ) {t : Nat} {v : Int32} (hv : stepS σ v) : OkW (up2 σ 14 t v) := by
  obtain ⟨h1, h2, h3, h4, h5⟩ := h
  refine ⟨h1, h2, fun i hi => ?_, h4, h5⟩
  obtain ⟨g1, g2, g3, g4, g5, g6⟩ := h3 i hi
  refine ⟨g1, g2, g3, ?_, g5, g6⟩
  show stepS σ (up2 σ 14 t v 14 i)
  rw [up2_self]
  by_cases c : i = t
  · rw [c, va_up_self]; exact hv
  · rw [va_up_ne _ _ c]; exact g4
theorem OkW.u15 (h : OkW σ) {t : Nat} {v : Int32} (hv : -1 ≤ v.toInt ∧ v.toInt < (σ 1 0).toInt) : OkW (up2 σ 15 t v) := by
  obtain ⟨h1, h2, h3, h4, h5⟩ := h
  refine ⟨h1, h2, fun i hi => ?_, h4, h5⟩
  obtain ⟨g1, g2, g3, g4, g5, g6⟩ := h3 i hi
  refine ⟨g1, g2, g3, g4, ?_, g6⟩
  show -1 ≤ (up2 σ 15 t v 15 i).toInt ∧ (up2 σ 15 t v 15 i).toInt < (σ 1 0).toInt
  rw [up2_self]
  by_cases c : i = t
  · rw [c, va_up_self]; exact hv
  · rw [va_up_ne _ _ c]; exact g5
theorem OkW.u16 (h : OkW σ) {t : Nat} {v : Int32} (hv : v = 0 ∨ (v = 1 ∧ σ 11 t = 4)) : OkW (up2 σ 16 t v) := by
  obtain ⟨h1, h2, h3, h4, h5⟩ := h
  refine ⟨h1, h2, fun i hi => ?_, h4, h5⟩
  obtain ⟨g1, g2, g3, g4, g5, g6⟩ := h3 i hi
  refine ⟨g1, g2, g3, g4, g5, ?_⟩
  show up2 σ 16 t v 16 i = 0 ∨ (up2 σ 16 t v 16 i = 1 ∧ σ 11 i = 4)
  rw [up2_self]
  by_cases c : i = t
  · rw [c, va_up_self]; exact hv
  · rw [va_up_ne _ _ c]; exact g6
theorem OkW.u18 (h : OkW σ) {m : Nat} {v : Int32} (hv : bd v 0 99) : OkW (up2 σ 18 m v) := by
  obtain ⟨h1, h2, h3, h4, h5⟩ := h
  refine ⟨h1, h2, h3, fun i hi => ⟨(h4 i hi).1, ?_⟩, h5⟩
  show bd (up2 σ 18 m v 18 i) 0 99
  rw [up2_self]
  by_cases c : i = m
  · rw [c, va_up_self]; exact hv
  · rw [va_up_ne _ _ c]; exact (h4 i hi).2
theorem OkW.ux (h : OkW σ) {k i : Nat} {v : Int32} (hk : k = 7 ∨ k = 8 ∨ k = 9 ∨ k = 10 ∨ 22 ≤ k) : OkW (up2 σ k i v) := h.c (fun q hq => by rw [up2_ne (by omega)]) (fun q h1 h2 j _ => by rw [up2_ne (by omega)])
theorem tire_ok {a w : Int32} (ha : bd a 0 99) (hw : bd w 1 99) : bd (tireC a w) 0 99 := by
  have d := i_div (x := w) (y := 10) (by omega) (by rw [c_10]; omega)
  rw [c_10] at d
  have e1 := i_add (x := a) (y := w / 10) (by omega) (by omega)
  have e2 := i_add (x := a + w / 10) (y := 1) (by rw [c_1]; omega) (by rw [c_1]; omega)
  rw [c_1] at e2
  have l := low_i 99 (a + w / 10 + 1)
  rw [c_99] at l
  unfold tireC bd
  split at l <;> omega
theorem wrong_step (h : OkW σ) {m d : Int32} {t : Nat} (ht : t < Int32.toNatClampNeg (σ 0 0)) (h0 : wrongS σ m t (nearC d) = 0) : stepS σ (σ 14 t + d) := by
  rw [wrong_x h ht] at h0
  by_cases c1 : σ 15 t = m
  · rw [if_pos c1] at h0; exact absurd h0 (by decide)
  rw [if_neg c1] at h0
  by_cases c2 : ¬ (¬ d < -(σ 14 t) ∧ ¬ (σ 3 0 - σ 14 t) < d)
  · rw [if_pos c2] at h0; exact absurd h0 (by decide)
  rw [if_neg c2] at h0
  by_cases c3 : wetP (σ 4 0) (σ 5 0) (σ 14 t + d)
  · rw [if_pos c3] at h0; exact absurd h0 (by decide)
  obtain ⟨a, b⟩ := Classical.not_not.mp c2
  obtain ⟨s1, s2, -⟩ := (h.2.2.1 t ht).2.2.2.1
  have l1 := h.2.1.1
  rw [i_lt, c_0] at s1
  rw [i_lt] at s2
  have n1 := i_sub (x := 0) (y := σ 14 t) (by rw [c_0]; omega) (by rw [c_0]; omega)
  rw [Int32.zero_sub, c_0] at n1
  have n2 := i_sub (x := σ 3 0) (y := σ 14 t) (by omega) (by omega)
  rw [i_lt, n1] at a
  rw [i_lt, n2] at b
  have n3 := i_add (x := σ 14 t) (y := d) (by omega) (by omega)
  refine ⟨?_, ?_, c3⟩
  · rw [i_lt, c_0, n3]; omega
  · rw [i_lt, n3]; omega
theorem OkW.carries (h : OkW σ) {m d : Int32} {t : Nat} (hm : mnP σ m) (ht : t < Int32.toNatClampNeg (σ 0 0)) (hp : stepS σ (σ 14 t + d)) : OkW (carriesS σ m t d) := by
  have hmi := ix_lt hm.1 hm.2
  obtain ⟨b1, b2⟩ := hm
  rw [i_lt, c_0] at b1
  rw [i_lt] at b2
  have g1 := (h.u14 (t := t) hp).u15 (t := t) (v := m) ⟨by omega, b2⟩
  exact g1.u18 (tire_ok (h.2.2.2.1 _ hmi).2 (h.2.2.1 t ht).2.1)
theorem carries_k {m d : Int32} {t k : Nat} (hk : k ≠ 14 ∧ k ≠ 15 ∧ k ≠ 18) : carriesS σ m t d k = σ k := by
  unfold carriesS
  rw [up2_ne hk.2.2, up2_ne hk.2.1, up2_ne hk.1]
/-- what the shelves, the image, the trace and the table need -/
theorem OkS.of (h : OkS σ) (hW : OkW τ) (hk : ∀ k, (22 ≤ k ∧ k ≤ 25) ∨ k = 28 ∨ k = 36 ∨ k = 48 ∨ k = 49 → τ k = σ k) (h0 : (σ 0 0).toInt ≤ (τ 0 0).toInt) : OkS τ := by
  obtain ⟨-, h2, h3, h4, h5⟩ := h
  refine ⟨hW, fun s hs => ?_, ?_, ?_, ?_⟩
  · rw [hk 22 (by omega), hk 23 (by omega), hk 24 (by omega), hk 25 (by omega)]
    obtain ⟨a, b, c⟩ := h2 s hs
    exact ⟨a, b, fun q => ⟨(c q).1, Int.lt_of_lt_of_le (c q).2 h0⟩⟩
  · rw [hk 49 (by omega), kpt_c (hk 36 (by omega))]; exact h3
  · rw [hk 48 (by omega)]; exact h4
  · rw [hk 28 (by omega)]; exact h5
theorem OkS.no {S : ST} (h : OkS S.1) (b : Int32) : OkS (noS S b).2.1 := h.of (h.1.ux (by omega)) (fun k hk => up2_ne (by omega)) (Int.le_of_eq rfl)
theorem OkS.no10 {S : ST} (h : OkS S.1) (b : Int32) : OkS (noTenS S b).2.1 := h.no b
/-- either of the two -/
theorem ok_cI {S : ST} {P : Prop} {a b : Int32 × ST} (ha : P → OkS a.2.1) (hb : ¬ P → OkS b.2.1) : OkS (cI P a b).2.1 := by
  by_cases c : P
  · rw [cI_t c]; exact ha c
  · rw [cI_f c]; exact hb c
end
theorem ok_rw {S : ST} (h : OkS S.1) {s : Nat} {o n : Int32} (ho : bd o 0 3) (hn : bd n 0 160) : OkS (up2 (up2 (up2 S.1 22 s 1) 23 s o) 24 s n) := by
  have hW : OkW (up2 (up2 (up2 S.1 22 s 1) 23 s o) 24 s n) := ((h.1.ux (by omega)).ux (by omega)).ux (by omega)
  obtain ⟨-, g2, g3, g4, g5⟩ := h
  refine ⟨hW, fun s' hs' => ?_, g3, g4, g5⟩
  obtain ⟨a, b, c⟩ := g2 s' hs'
  show ((up2 (up2 (up2 S.1 22 s 1) 23 s o) 24 s n) 22 s' = 0 ∨ (up2 (up2 (up2 S.1 22 s 1) 23 s o) 24 s n) 22 s' = 1 ∨ (up2 (up2 (up2 S.1 22 s 1) 23 s o) 24 s n) 22 s' = 2) ∧ ((up2 (up2 (up2 S.1 22 s 1) 23 s o) 24 s n) 22 s' = 1 → bd ((up2 (up2 (up2 S.1 22 s 1) 23 s o) 24 s n) 23 s') 0 3 ∧ bd ((up2 (up2 (up2 S.1 22 s 1) 23 s o) 24 s n) 24 s') 0 160) ∧ ((up2 (up2 (up2 S.1 22 s 1) 23 s o) 24 s n) 22 s' = 2 → 0 ≤ ((up2 (up2 (up2 S.1 22 s 1) 23 s o) 24 s n) 25 s').toInt ∧ ((up2 (up2 (up2 S.1 22 s 1) 23 s o) 24 s n) 25 s').toInt < (S.1 0 0).toInt)
  simp (decide := true) only [up2_ap, if_true, if_false]
  by_cases e : s' = s
  · simp only [e, if_true]
    exact ⟨Or.inr (Or.inl trivial), fun _ => ⟨ho, hn⟩, fun q => absurd q (by decide)⟩
  · simp only [e, if_false]
    exact ⟨a, b, c⟩
theorem bdi {x lo hi : Int32} (h : ¬ x < lo ∧ ¬ hi < x) : bd x lo.toInt hi.toInt := by
  rw [i_lt, i_lt] at h
  constructor <;> omega
theorem ok_row {S : ST} (h : OkS S.1) (s o n : Int32) : OkS (rowS S s o n).2.1 := by
  unfold rowS
  exact ok_cI (S := S) (fun _ => h.no _) (fun h1 => ok_cI (S := S) (fun _ => h.no _) (fun h2 => ok_cI (S := S) (fun _ => h.no _) (fun h3 => ok_cI (S := S) (fun _ => h.no _) (fun h4 => ok_rw h (bdi (lo := 0) (hi := 3) ⟨fun q => h3 (Or.inl q), fun q => h3 (Or.inr q)⟩) (bdi (lo := 0) (hi := 160) ⟨h2, h4⟩)))))
theorem ok_set {S : ST} (h : OkS S.1) (s i : Int32) (v : Int64) : OkS (setS S s i v).2.1 := by
  unfold setS
  exact ok_cI (S := S) (fun _ => h.no _) (fun h1 => ok_cI (S := S) (fun _ => h.no _) (fun h2 => ok_cI (S := S) (fun _ => h.no _) (fun h3 => ok_cI (S := S) (fun _ => h.no _) (fun h4 => h))))
theorem ok_copy {S : ST} (h : OkS S.1) (p q i j n : Int32) : OkS (copyS S p q i j n).2.1 := by
  unfold copyS
  exact ok_cI (S := S) (fun _ => h.no _) (fun h1 => ok_cI (S := S) (fun _ => h.no _) (fun h2 => ok_cI (S := S) (fun _ => h.no _) (fun h3 => ok_cI (S := S) (fun _ => h.no _) (fun h4 => ok_cI (S := S) (fun _ => h.no _) (fun h5 => h)))))
/-- a shelf is emptied or shows a thing -/
theorem ok_sh {S : ST} (h : OkS S.1) {s : Nat} {a v : Int32} (ha : a = 0 ∨ (a = 2 ∧ thP S.1 v)) : OkS (up2 (up2 S.1 22 s a) 25 s v) := by
  have hW : OkW (up2 (up2 S.1 22 s a) 25 s v) := (h.1.ux (by omega)).ux (by omega)
  obtain ⟨-, g2, g3, g4, g5⟩ := h
  refine ⟨hW, fun s' hs' => ?_, g3, g4, g5⟩
  obtain ⟨p, q, r⟩ := g2 s' hs'
  show ((up2 (up2 S.1 22 s a) 25 s v) 22 s' = 0 ∨ (up2 (up2 S.1 22 s a) 25 s v) 22 s' = 1 ∨ (up2 (up2 S.1 22 s a) 25 s v) 22 s' = 2) ∧ ((up2 (up2 S.1 22 s a) 25 s v) 22 s' = 1 → bd ((up2 (up2 S.1 22 s a) 25 s v) 23 s') 0 3 ∧ bd ((up2 (up2 S.1 22 s a) 25 s v) 24 s') 0 160) ∧ ((up2 (up2 S.1 22 s a) 25 s v) 22 s' = 2 → 0 ≤ ((up2 (up2 S.1 22 s a) 25 s v) 25 s').toInt ∧ ((up2 (up2 S.1 22 s a) 25 s v) 25 s').toInt < (S.1 0 0).toInt)
  simp (decide := true) only [up2_ap, if_true, if_false]
  by_cases e : s' = s
  · simp only [e, if_true]
    rcases ha with rfl | ⟨rfl, hv⟩
    · exact ⟨Or.inl rfl, fun q => absurd q (by decide), fun q => absurd q (by decide)⟩
    · obtain ⟨b1, b2⟩ := hv
      rw [i_lt, c_0] at b1
      rw [i_lt] at b2
      exact ⟨Or.inr (Or.inr rfl), fun q => absurd q (by decide), fun _ => ⟨by omega, b2⟩⟩
  · simp only [e, if_false]
    exact ⟨p, q, r⟩
theorem ok_show {S : ST} (h : OkS S.1) (s t : Int32) : OkS (showS S s t).2.1 := by
  unfold showS
  refine ok_cI (S := S) (fun _ => h.no _) (fun h1 => ok_cI (S := S) (fun _ => ok_sh h (Or.inl rfl)) (fun h2 => ok_sh h (Or.inr ⟨rfl, ?_⟩)))
  exact Classical.byContradiction fun q => h1 (Or.inr ⟨h2, q⟩)
theorem ok_says {S : ST} (h : OkS S.1) (s k : Int32) : OkS (saysS S s k).2.1 := by
  unfold saysS
  exact ok_cI (S := S) (fun _ => h.no _) (fun _ => ok_cI (S := S) (fun _ => h.no _) (fun _ => ok_cI (S := S) (fun _ => h.no _) (fun _ => ok_cI (S := S) (fun _ => h.no _) (fun _ => ok_cI (S := S) (fun _ => h) (fun _ => ok_cI (S := S) (fun _ => h) (fun _ => ok_cI (S := S) (fun _ => h) (fun _ => h)))))))
theorem things_k {σ : cS} {a b c d : Int32} {k : Nat} (hk : k = 1 ∨ k = 2 ∨ (3 ≤ k ∧ k ≤ 10) ∨ 17 ≤ k) : thingsS σ a b c d k = σ k := by
  unfold thingsS
  rw [up2_ne (by omega), up2_ne (by omega), up2_ne (by omega), up2_ne (by omega), up2_ne (by omega), up2_ne (by omega), up2_ne (by omega)]
theorem suc_i {x : Int32} {n : Nat} (h : bd x 0 n) (hn : n < 100) : (x + 1).toInt = x.toInt + 1 := by
  rw [i_add (by rw [c_1]; have := h.1; omega) (by rw [c_1]; have := h.2; omega), c_1]
theorem ok_thing {S : ST} (h : OkS S.1) (k w e p : Int32) : OkS (thingS S k w e p).2.1 := by
  unfold thingS
  refine ok_cI (S := S) (fun _ => h.no _) (fun h1 => ok_cI (S := S) (fun _ => h.no _) (fun h2 => ok_cI (S := S) (fun _ => h.no _) (fun h3 => ?_)))
  refine h.of (h.1.things (bdi (lo := 0) (hi := 6) ⟨fun q => h1 (Or.inl q), fun q => h1 (Or.inr q)⟩) (bdi (lo := 1) (hi := 99) ⟨fun q => h2 (Or.inl q), fun q => h2 (Or.inr (Or.inl q))⟩) (bdi (lo := 1) (hi := 9) ⟨fun q => h2 (Or.inr (Or.inr (Or.inl q))), fun q => h2 (Or.inr (Or.inr (Or.inr (Or.inl q))))⟩) (Classical.byContradiction fun q => h2 (Or.inr (Or.inr (Or.inr (Or.inr q))))) h3) (fun k hk => things_k (by omega)) ?_
  show (S.1 0 0).toInt ≤ (thingsS S.1 k w e p 0 0).toInt
  rw [show thingsS S.1 k w e p 0 0 = S.1 0 0 + 1 by simp [thingsS, up2_ap], suc_i h.1.1.1 (by decide)]
  omega
theorem men_k {σ : cS} {s : Int32} {k : Nat} (hk : k ≠ 1 ∧ k ≠ 17 ∧ k ≠ 18) : menS σ s k = σ k := by
  unfold menS
  rw [up2_ne hk.1, up2_ne hk.2.2, up2_ne hk.2.1]
theorem OkS.men {σ : cS} (h : OkS σ) {s : Int32} (hs : bd s 1 99) (h8 : ¬ σ 1 0 = 8) : OkS (menS σ s) := h.of (h.1.men hs h8) (fun k hk => men_k (by omega)) (Int.le_of_eq (by rw [men_k (by decide)]))
theorem ok_man {S : ST} (h : OkS S.1) (s : Int32) : OkS (manS S s).2.1 := by
  unfold manS
  exact ok_cI (S := S) (fun _ => h.no _) (fun h1 => ok_cI (S := S) (fun _ => h.no _) (fun h2 => h.men (bdi (lo := 1) (hi := 99) ⟨fun q => h1 (Or.inl q), fun q => h1 (Or.inr q)⟩) h2))
theorem ok_menL {f : Nat → Int32} : ∀ (n k : Nat) (σ : cS), OkS σ → OkS (menL f n k σ).2
  | 0, _, _, h => h
  | n + 1, k, σ, h => by
    rw [menL]
    by_cases c : σ 1 0 = 8 ∨ f k < 1 ∨ 99 < f k
    · rw [cI_t c]; exact h
    · rw [cI_f c]
      exact ok_menL n (k + 1) _ (h.men (bdi (lo := 1) (hi := 99) ⟨fun q => c (Or.inr (Or.inl q)), fun q => c (Or.inr (Or.inr q))⟩) (fun q => c (Or.inl q)))
theorem ok_men {S : ST} (h : OkS S.1) (s i n : Int32) : OkS (menRS S s i n).2.1 := by
  unfold menRS
  exact ok_cI (S := S) (fun _ => h.no _) (fun _ => ok_cI (S := S) (fun _ => h.no _) (fun _ => ok_cI (S := S) (fun _ => h.no _) (fun _ => ok_menL _ _ _ h)))
theorem ok_want {S : ST} (h : OkS S.1) (t p v : Int32) : OkS (wantS S t p v).2.1 := by
  unfold wantS
  refine ok_cI (S := S) (fun _ => h.no _) (fun h1 => ok_cI (S := S) (fun _ => h.no _) (fun h2 => ok_cI (S := S) (fun _ => h.no _) (fun h3 => ?_)))
  have e : ∀ k, k ≠ 19 ∧ k ≠ 20 ∧ k ≠ 21 ∧ k ≠ 2 → wantedS S.1 t p v k = S.1 k := fun k hk => by
    unfold wantedS
    rw [up2_ne hk.2.2.2, up2_ne hk.2.2.1, up2_ne hk.2.1, up2_ne hk.1]
  exact h.of (h.1.wanted (Classical.not_not.mp h1) (Classical.byContradiction fun q => h2 (Or.inl q)) (bdi (lo := 0) (hi := 99) ⟨fun q => h2 (Or.inr (Or.inl q)), fun q => h2 (Or.inr (Or.inr q))⟩) h3) (fun k hk => e k (by omega)) (Int.le_of_eq (by show _ = (wantedS S.1 t p v 0 0).toInt; rw [e 0 (by decide)]))
theorem ok_ask {S : ST} (h : OkS S.1) (w v : Int32) : OkS (askS S w v).2.1 := by
  unfold askS
  exact ok_cI (S := S) (fun h1 => h.of (h.1.long h1.2) (fun k hk => up2_ne (by omega)) (Int.le_of_eq rfl)) (fun _ => ok_cI (S := S) (fun h1 => h.of (h.1.wind (bdi (lo := 0) (hi := 9) h1.2)) (fun k hk => up2_ne (by omega)) (Int.le_of_eq rfl)) (fun _ => h.no _))
theorem ok_river {S : ST} (h : OkS S.1) (f t : Int32) : OkS (riverS S f t).2.1 := by
  unfold riverS
  exact ok_cI (S := S) (fun _ => h.no _) (fun h1 => h.of (h.1.river (Classical.not_not.mp h1)) (fun k hk => by show up2 (up2 S.1 4 0 f) 5 0 t k = _; rw [up2_ne (by omega), up2_ne (by omega)]) (Int.le_of_eq rfl))
theorem ok_carry {S : ST} (h : OkS S.1) (m t d : Int32) : OkS (carryS S m t d).2.1 := by
  unfold carryS
  refine ok_cI (S := S) (fun _ => h.no _) (fun h1 => ok_cI (S := S) (fun _ => h.no _) (fun h2 => ?_))
  have hm : mnP S.1 m := Classical.byContradiction fun q => h1 (Or.inl q)
  have ht : thP S.1 t := Classical.byContradiction fun q => h1 (Or.inr q)
  have hw := h.1.carries hm (ix_lt ht.1 ht.2) (wrong_step h.1 (ix_lt ht.1 ht.2) (Classical.not_not.mp h2))
  have ek : ∀ k, k ≠ 14 ∧ k ≠ 15 ∧ k ≠ 18 → carriesS S.1 m (Int32.toNatClampNeg t) d k = S.1 k := fun k hk => carries_k hk
  show OkS (up2 (carriesS S.1 m (Int32.toNatClampNeg t) d) 8 0 (S.1 8 0 + 1))
  generalize carriesS S.1 m (Int32.toNatClampNeg t) d = τ at hw ek
  refine h.of (hw.ux (by omega)) (fun k hk => ?_) (Int.le_of_eq ?_)
  · rw [up2_ne (by omega), ek k (by omega)]
  · rw [up2_ne (by decide), ek 0 (by decide)]
theorem tossW {σ : cS} (h : OkW σ) {x p : Int32} {t : Nat} (hp : stepS σ p) : OkW (up2 (up2 (up2 σ 7 0 x) 14 t p) 15 t (-1)) := by
  have a : OkW (up2 σ 7 0 x) := h.ux (Or.inl rfl)
  have b : OkW (up2 (up2 σ 7 0 x) 14 t p) := a.u14 hp
  exact b.u15 (by rw [c_m1]; have := b.1.2.1; omega)
theorem toss_f {σ : cS} {m t d : Int32} : tossM σ m t d false = up2 (up2 (up2 (up2 (up2 σ 7 0 (sdC (σ 7 0))) 14 (Int32.toNatClampNeg t) (σ 14 (Int32.toNatClampNeg t) + d)) 15 (Int32.toNatClampNeg t) (-1)) 18 (Int32.toNatClampNeg m) (tireC (σ 18 (Int32.toNatClampNeg m)) (σ 12 (Int32.toNatClampNeg t)))) 8 0 (σ 8 0 + 1) := rfl
theorem toss_t {σ : cS} {m t d : Int32} : tossM σ m t d true = up2 (up2 (up2 (up2 (up2 (up2 σ 7 0 (sdC (σ 7 0))) 14 (Int32.toNatClampNeg t) (σ 14 (Int32.toNatClampNeg t) + d)) 15 (Int32.toNatClampNeg t) (-1)) 16 (Int32.toNatClampNeg t) 1) 18 (Int32.toNatClampNeg m) (tireC (σ 18 (Int32.toNatClampNeg m)) (σ 12 (Int32.toNatClampNeg t)))) 8 0 (σ 8 0 + 1) := rfl
theorem ok_tossM {σ : cS} (h : OkS σ) {m t d : Int32} {g : Bool} (hm : mnP σ m) (ht : thP σ t) (hp : throwP σ m t d) (hg : g = true → σ 11 (Int32.toNatClampNeg t) = 4) : OkS (tossM σ m t d g) := by
  have hmi := ix_lt hm.1 hm.2
  have hti := ix_lt ht.1 ht.2
  have h9 := tire_ok (h.1.2.2.2.1 _ hmi).2 (h.1.2.2.1 _ hti).2.1
  have w1 := tossW h.1 (x := sdC (σ 7 0)) (t := Int32.toNatClampNeg t) hp.2
  cases g with
  | false =>
    rw [toss_f]
    generalize tireC (σ 18 (Int32.toNatClampNeg m)) (σ 12 (Int32.toNatClampNeg t)) = y at h9
    generalize sdC (σ 7 0) = x at w1
    have w2 := (w1.u18 (m := Int32.toNatClampNeg m) h9).ux (k := 8) (i := 0) (v := σ 8 0 + 1) (by omega)
    refine h.of w2 (fun k hk => ?_) (Int.le_of_eq rfl)
    rw [up2_ne (by omega), up2_ne (by omega), up2_ne (by omega), up2_ne (by omega), up2_ne (by omega)]
  | true =>
    rw [toss_t]
    have w3 := w1.u16 (t := Int32.toNatClampNeg t) (v := 1) (Or.inr ⟨rfl, hg rfl⟩)
    generalize tireC (σ 18 (Int32.toNatClampNeg m)) (σ 12 (Int32.toNatClampNeg t)) = y at h9
    generalize sdC (σ 7 0) = x at w3
    have w2 := (w3.u18 (m := Int32.toNatClampNeg m) h9).ux (k := 8) (i := 0) (v := σ 8 0 + 1) (by omega)
    refine h.of w2 (fun k hk => ?_) (Int.le_of_eq rfl)
    rw [up2_ne (by omega), up2_ne (by omega), up2_ne (by omega), up2_ne (by omega), up2_ne (by omega), up2_ne (by omega)]
theorem ok_toss {S : ST} (h : OkS S.1) (m t d : Int32) : OkS (tossS S m t d).2.1 := by
  unfold tossS
  refine ok_cI (S := S) (fun _ => h.no _) (fun h1 => ok_cI (S := S) (fun _ => h.no _) (fun h2 => ?_))
  have hm : mnP S.1 m := Classical.byContradiction fun q => h1 (Or.inl q)
  have ht : thP S.1 t := Classical.byContradiction fun q => h1 (Or.inr q)
  have hp : throwP S.1 m t d := Classical.byContradiction fun q => h2 (Or.inr (Or.inl q))
  exact ok_cI (S := S) (fun _ => ok_tossM h hm ht hp (fun q => by cases q)) (fun _ => ok_cI (S := S) (fun h4 => ok_tossM h hm ht hp (fun _ => h4)) (fun _ => ok_tossM h hm ht hp (fun q => by cases q)))
theorem partL_ok {t : Nat} {w : Int32} (hw : bd w 1 99) : ∀ (n : Nat) (σ : cS), OkW σ → t < Int32.toNatClampNeg (σ 0 0) → (σ 0 0).toInt + n ≤ 8 → OkW (partL t w n σ) ∧ (partL t w n σ 0 0).toInt = (σ 0 0).toInt + n ∧ ∀ k, 22 ≤ k → partL t w n σ k = σ k
  | 0, σ, h, _, _ => ⟨h, by show (σ 0 0).toInt = (σ 0 0).toInt + ((0 : Nat) : Int); omega, fun _ _ => rfl⟩
  | n + 1, σ, h, ht, hn => by
    have hs := (h.2.2.1 t ht).2.2.2.1
    have h8 : ¬ σ 0 0 = 8 := fun e => by rw [e] at hn; rw [c_8] at hn; omega
    have h1 := h.things (k := 0) (w := w) (e := 1) (p := σ 14 t) (by decide) hw (by decide) hs h8
    have e0 : thingsS σ 0 w 1 (σ 14 t) 0 0 = σ 0 0 + 1 := by simp [thingsS, up2_ap]
    have hb := suc_i h.1.1 (by decide)
    have ht' : t < Int32.toNatClampNeg (thingsS σ 0 w 1 (σ 14 t) 0 0) := by
      rw [e0]
      have a1 := ix_toInt h.1.1.1
      have a2 := ix_toInt (t := σ 0 0 + 1) (by have := h.1.1.1; omega)
      omega
    have h15 := (h1.2.2.1 t ht').2.2.2.2.1
    have h2 := h1.u15 (t := Int32.toNatClampNeg (σ 0 0)) h15
    have e2 : up2 (thingsS σ 0 w 1 (σ 14 t)) 15 (Int32.toNatClampNeg (σ 0 0)) (thingsS σ 0 w 1 (σ 14 t) 15 t) 0 0 = σ 0 0 + 1 := by rw [up2_ne (by decide), e0]
    obtain ⟨r1, r2, r3⟩ := partL_ok hw n _ h2 (by rw [up2_ne (by decide)]; exact ht') (by rw [e2, hb]; omega)
    refine ⟨r1, ?_, fun k hk => ?_⟩
    · rw [partL, r2, e2, hb]; omega
    · rw [partL, r3 k hk, up2_ne (by omega), things_k (by omega)]
theorem OkW.p3 {σ : cS} (h : OkW σ) {t : Nat} {w : Int32} (ht : t < Int32.toNatClampNeg (σ 0 0)) (h5 : σ 11 t = 5) (hw : bd w 1 99) : OkW (up2 (up2 (up2 σ 11 t 0) 12 t w) 13 t 1) := by
  obtain ⟨h1, h2, h3, h4, h6⟩ := h
  refine ⟨h1, h2, fun i hi => ?_, h4, h6⟩
  obtain ⟨g1, g2, g3, g4, g5, g6⟩ := h3 i hi
  show bd (up2 (up2 (up2 σ 11 t 0) 12 t w) 13 t 1 11 i) 0 6 ∧ bd (up2 (up2 (up2 σ 11 t 0) 12 t w) 13 t 1 12 i) 1 99 ∧ bd (up2 (up2 (up2 σ 11 t 0) 12 t w) 13 t 1 13 i) 1 9 ∧ stepS σ (σ 14 i) ∧ (-1 ≤ (σ 15 i).toInt ∧ (σ 15 i).toInt < (σ 1 0).toInt) ∧ (σ 16 i = 0 ∨ (σ 16 i = 1 ∧ up2 (up2 (up2 σ 11 t 0) 12 t w) 13 t 1 11 i = 4))
  simp (decide := true) only [up2_ap, if_true, if_false]
  by_cases c : i = t
  · simp only [c, if_true]
    subst c
    refine ⟨by decide, hw, by decide, g4, g5, ?_⟩
    rcases g6 with e | ⟨-, e⟩
    · exact Or.inl e
    · exact absurd (h5.symm.trans e) (by decide)
  · simp only [c, if_false]
    exact ⟨g1, g2, g3, g4, g5, g6⟩
theorem ok_part {S : ST} (h : OkS S.1) (t : Int32) : OkS (partS S t).2.1 := by
  unfold partS
  refine ok_cI (S := S) (fun _ => h.no _) (fun h1 => ok_cI (S := S) (fun _ => h.no _) (fun h2 => ok_cI (S := S) (fun _ => h.no _) (fun h3 => ?_)))
  have ht : thP S.1 t := Classical.not_not.mp h1
  have hti := ix_lt ht.1 ht.2
  have h5 : S.1 11 (Int32.toNatClampNeg t) = 5 := Classical.not_not.mp h2
  obtain ⟨-, b1, b2, -⟩ := h.1.2.2.1 _ hti
  have hw : bd (partW S.1 (Int32.toNatClampNeg t)) 1 99 := by
    have := cnt_ok (k := 5) b1 b2
    unfold cntC at this
    rw [if_pos rfl] at this
    exact this
  have b0 := h.1.1.1
  have e1 := i_add (x := S.1 0 0) (y := S.1 13 (Int32.toNatClampNeg t)) (by omega) (by omega)
  have e2 := i_sub (x := S.1 0 0 + S.1 13 (Int32.toNatClampNeg t)) (y := 1) (by rw [c_1]; omega) (by rw [c_1]; omega)
  rw [i_lt, e2, e1, c_1, c_8] at h3
  have e3 := ix_toInt (t := S.1 13 (Int32.toNatClampNeg t)) (by omega)
  have w3 := h.1.p3 hti h5 hw
  obtain ⟨r1, r2, r3⟩ := partL_ok (t := Int32.toNatClampNeg t) hw (Int32.toNatClampNeg (S.1 13 (Int32.toNatClampNeg t)) - 1) (up2 (up2 (up2 S.1 11 (Int32.toNatClampNeg t) 0) 12 (Int32.toNatClampNeg t) (partW S.1 (Int32.toNatClampNeg t))) 13 (Int32.toNatClampNeg t) 1) w3 hti (by show (S.1 0 0).toInt + _ ≤ 8; omega)
  refine h.of r1 (fun k hk => ?_) ?_
  · show partM S.1 _ k = _
    unfold partM
    rw [r3 k (by omega), up2_ne (by omega), up2_ne (by omega), up2_ne (by omega)]
  · show (S.1 0 0).toInt ≤ (partM S.1 _ 0 0).toInt
    unfold partM
    rw [r2]
    show (S.1 0 0).toInt ≤ (S.1 0 0).toInt + _
    omega
theorem nightL_ok : ∀ (n m : Nat) (s : Int32) (σ : cS), OkW σ → m + n ≤ Int32.toNatClampNeg (σ 1 0) → OkW (nightL n m s σ).2 ∧ ∀ k, k ≠ 18 → (nightL n m s σ).2 k = σ k
  | 0, _, _, σ, h, _ => ⟨h, fun _ _ => rfl⟩
  | n + 1, m, s, σ, h, hm => by
    rw [nightL]
    have b := (h.2.2.2.1 m (by omega)).2
    have hh := half_ok b.1 (by have := b.2; omega)
    obtain ⟨r1, r2⟩ := nightL_ok n (m + 1) (s + σ 18 m / 2) (up2 σ 18 m (σ 18 m / 2)) (h.u18 ⟨hh.1, by have := b.2; omega⟩) (by rw [up2_ne (by decide)]; omega)
    exact ⟨r1, fun k hk => (r2 k hk).trans (up2_ne hk)⟩
theorem nightT_ok : ∀ (n t : Nat) (σ : cS), OkW σ → OkW (nightT n t σ) ∧ ∀ k, k ≠ 15 → nightT n t σ k = σ k
  | 0, _, σ, h => ⟨h, fun _ _ => rfl⟩
  | n + 1, t, σ, h => by
    rw [nightT]
    obtain ⟨r1, r2⟩ := nightT_ok n (t + 1) (up2 σ 15 t (-1)) (h.u15 (by rw [c_m1]; have := h.1.2.1; omega))
    exact ⟨r1, fun k hk => (r2 k hk).trans (up2_ne hk)⟩
theorem ok_night {S : ST} (h : OkS S.1) : OkS (nightS S).2.1 := by
  obtain ⟨a1, a2⟩ := nightL_ok (Int32.toNatClampNeg (S.1 1 0)) 0 0 S.1 h.1 (by omega)
  obtain ⟨b1, b2⟩ := nightT_ok (Int32.toNatClampNeg (S.1 0 0)) 0 _ a1
  exact h.of b1 (fun k hk => (b2 k (by omega)).trans (a2 k (by omega))) (Int.le_of_eq (by show _ = (nightT _ 0 _ 0 0).toInt; rw [b2 0 (by decide), a2 0 (by decide)]))
theorem ok_seed {S : ST} (h : OkS S.1) (v : Int32) : OkS (seedS S v).2.1 := h.of (h.1.ux (by omega)) (fun k hk => up2_ne (by omega)) (Int.le_of_eq rfl)
theorem goB_le (k : Int32) : (goB k).length ≤ 4 := by
  unfold goB
  simp only [List.length_append]
  split <;> split <;> split <;> simp
theorem reB_le (k : Int32) : (reB k).length ≤ 8 := by
  have := goB_le k
  unfold reB
  simp only [List.length_append, List.length_cons]
  split <;> split <;> split <;> simp <;> omega
theorem faB_le (k : Int32) : (faB k).length ≤ 15 := by
  have := goB_le k
  have := reB_le k
  unfold faB
  simp only [List.length_append, List.length_cons]
  split <;> split <;> simp <;> omega
theorem ok_bodies {σ : cS} (h : OkS σ) (l : List Int32) (hl : l.length ≤ 15) : OkS (bodiesS (up2 σ 48 0 0) l) := by
  obtain ⟨h1, h2, h3, -, h5⟩ := h
  have e : ∀ k, k ≠ 47 → k ≠ 48 → bodiesS (up2 σ 48 0 0) l k = σ k := fun k a b => (bodiesS_k a b l).trans (up2_ne b)
  have e48 : bodiesS (up2 σ 48 0 0) l 48 0 = nI (0 + l.length) := bodiesS_0 (n := 0) rfl l
  refine ⟨h1.c (fun k hk => by rw [e k (by omega) (by omega)]) (fun k _ h2 i _ => by rw [e k (by omega) (by omega)]), fun s hs => ?_, ?_, ?_, ?_⟩
  · rw [e 22 (by decide) (by decide), e 23 (by decide) (by decide), e 24 (by decide) (by decide), e 25 (by decide) (by decide), e 0 (by decide) (by decide)]
    exact h2 s hs
  · rw [e 49 (by decide) (by decide), kpt_c (e 36 (by decide) (by decide))]; exact h3
  · rw [e48, nI_toInt (by omega)]; omega
  · rw [e 28 (by decide) (by decide)]; exact h5
theorem ok_act {S : ST} (h : OkS S.1) (t a x : Int32) : OkS (actS S t a x).2.1 := by
  unfold actS
  exact ok_cI (S := S) (fun _ => ok_bodies h [] (by decide)) (fun _ => ok_cI (S := S) (fun _ => ok_bodies h _ (by have := goB_le (S.1 11 (Int32.toNatClampNeg t)); omega)) (fun _ => ok_cI (S := S) (fun _ => ok_bodies h _ (by have := reB_le (S.1 11 (Int32.toNatClampNeg t)); omega)) (fun _ => ok_bodies h _ (faB_le _))))
theorem kpt_pk {σ τ : cS} (h : τ 36 = pkC σ) : (∀ k, k ≤ 8 → kpt τ k 0 = σ k 0) ∧ (∀ k, 11 ≤ k → k ≤ 18 → ∀ i, i < 8 → kpt τ k i = σ k i) ∧ ∀ k, 19 ≤ k → k ≤ 21 → ∀ i, i < 4 → kpt τ k i = σ k i := by
  refine ⟨fun k hk => ?_, fun k h1 h2 i hi => ?_, fun k h1 h2 i hi => ?_⟩
  · unfold kpt
    rw [if_pos (by omega), h]
    show pkC σ (76 + k) = _
    exact pk_c
  · unfold kpt
    rw [if_neg (by omega), if_pos ⟨h1, h2⟩, h]
    show pkC σ (8 * (k - 11) + i) = _
    rw [pk_a (by omega) hi, show 11 + (k - 11) = k by omega]
  · unfold kpt
    rw [if_neg (by omega), if_neg (by omega), if_pos ⟨h1, h2⟩, h]
    show pkC σ (64 + 4 * (k - 19) + i) = _
    rw [pk_b (by omega) hi, show 19 + (k - 19) = k by omega]
theorem lnF_a {k : Nat} (h1 : 11 ≤ k) (h2 : k ≤ 18) : lnF k = 8 := by
  unfold lnF
  rw [if_neg (by omega), if_pos (by omega)]
theorem lnF_b {k : Nat} (h1 : 19 ≤ k) (h2 : k ≤ 21) : lnF k = 4 := by
  unfold lnF
  rw [if_neg (by omega), if_neg (by omega), if_pos (by omega)]
theorem ok_kpt {σ τ : cS} (h : OkW σ) (e : τ 36 = pkC σ) : OkW (kpt τ) := by
  obtain ⟨a, b, c⟩ := kpt_pk e
  refine h.c (fun k hk => a k (by omega)) (fun k h1 h2 i hi => ?_)
  by_cases g : k ≤ 18
  · exact b k h1 g i (by rw [lnF_a h1 g] at hi; exact hi)
  · exact c k (by omega) h2 i (by rw [lnF_b (by omega) h2] at hi; exact hi)
theorem ok_image {S : ST} (h : OkS S.1) : OkS (imageS S).2.1 := by
  have hk := ok_kpt (τ := (imageS S).2.1) h.1 rfl
  obtain ⟨h1, h2, h3, h4, h5⟩ := h
  refine ⟨h1.c (fun k hk => ?_) (fun k a b i _ => ?_), h2, Or.inr ⟨rfl, hk⟩, h4, h5⟩
  · show (if k = 49 then sc 1 else if k = 36 then pkC S.1 else S.1 k) 0 = _
    rw [if_neg (by omega), if_neg (by omega)]
  · show (if k = 49 then sc 1 else if k = 36 then pkC S.1 else S.1 k) i = _
    rw [if_neg (by omega), if_neg (by omega)]
theorem unC_k {σ : cS} {k : Nat} (hk : k < 9 ∨ (11 ≤ k ∧ k ≤ 21)) : unC (σ 36) σ k = kpt σ k := by
  rcases hk with h | ⟨h1, h2⟩
  · unfold unC kpt
    rw [if_pos h, if_pos h]; rfl
  · by_cases g : k ≤ 18
    · have a : unC (σ 36) σ k = fun i => σ 36 (8 * (k - 11) + i) := by unfold unC; rw [if_neg (by omega), if_pos ⟨h1, g⟩]
      have b : kpt σ k = fun i => σ 36 (8 * (k - 11) + i) := by unfold kpt; rw [if_neg (by omega), if_pos ⟨h1, g⟩]
      rw [a, b]
    · have a : unC (σ 36) σ k = fun i => σ 36 (64 + 4 * (k - 19) + i) := by unfold unC; rw [if_neg (by omega), if_neg (by omega), if_pos ⟨by omega, h2⟩]
      have b : kpt σ k = fun i => σ 36 (64 + 4 * (k - 19) + i) := by unfold kpt; rw [if_neg (by omega), if_neg (by omega), if_pos ⟨by omega, h2⟩]
      rw [a, b]
theorem unC_o {f : Nat → Int32} {σ : cS} {k : Nat} (hk : k = 9 ∨ k = 10 ∨ 22 ≤ k) : unC f σ k = σ k := by
  unfold unC
  rw [if_neg (by omega), if_neg (by omega), if_neg (by omega)]
theorem ok_restore {S : ST} (h : OkS S.1) : OkS (restoreS S).2.1 := by
  unfold restoreS
  refine ok_cI (S := S) (fun _ => h.no _) (fun h1 => ?_)
  have e : ∀ k, k ≠ 22 → restM S.1 k = unC (S.1 36) S.1 k := fun k hk => by unfold restM; rw [if_neg hk]
  have e22 : ∀ s, restM S.1 22 s = cI (S.1 22 s = 2 ∧ ¬ S.1 25 s < unC (S.1 36) S.1 0 0) 0 (S.1 22 s) := fun s => by unfold restM; rw [if_pos rfl]
  obtain ⟨-, g2, g3, g4, g5⟩ := h
  have hk : OkW (kpt S.1) := by
    rcases g3 with q | ⟨-, q⟩
    · exact absurd q h1
    · exact q
  have k0 : unC (S.1 36) S.1 0 = kpt S.1 0 := unC_k (by omega)
  refine ⟨hk.c (fun k hk => ?_) (fun k a b i _ => ?_), fun s hs => ?_, ?_, ?_, ?_⟩
  · show restM S.1 k 0 = _
    rw [e k (by omega), unC_k (by omega)]
  · show restM S.1 k i = _
    rw [e k (by omega), unC_k (by omega)]
  · show (restM S.1 22 s = 0 ∨ restM S.1 22 s = 1 ∨ restM S.1 22 s = 2) ∧ (restM S.1 22 s = 1 → bd (restM S.1 23 s) 0 3 ∧ bd (restM S.1 24 s) 0 160) ∧ (restM S.1 22 s = 2 → 0 ≤ (restM S.1 25 s).toInt ∧ (restM S.1 25 s).toInt < (restM S.1 0 0).toInt)
    rw [e22, e 23 (by decide), e 24 (by decide), e 25 (by decide), e 0 (by decide), unC_o (k := 23) (by omega), unC_o (k := 24) (by omega), unC_o (k := 25) (by omega)]
    obtain ⟨a, b, c⟩ := g2 s hs
    by_cases q : S.1 22 s = 2 ∧ ¬ S.1 25 s < unC (S.1 36) S.1 0 0
    · rw [cI_t q]
      exact ⟨Or.inl rfl, fun z => absurd z (by decide), fun z => absurd z (by decide)⟩
    · rw [cI_f q]
      exact ⟨a, b, fun z => ⟨(c z).1, i_lt.mp (Classical.byContradiction fun y => q ⟨z, y⟩)⟩⟩
  · show restM S.1 49 0 = 0 ∨ (restM S.1 49 0 = 1 ∧ OkW (kpt (restM S.1)))
    rw [e 49 (by decide), unC_o (by omega), kpt_c (show restM S.1 36 = S.1 36 by rw [e 36 (by decide), unC_o (by omega)])]
    exact g3
  · show 0 ≤ (restM S.1 48 0).toInt ∧ (restM S.1 48 0).toInt ≤ 20
    rw [e 48 (by decide), unC_o (by omega)]; exact g4
  · show ∀ i, i < 37 → restM S.1 28 i = wrdC i
    rw [e 28 (by decide), unC_o (by omega)]; exact g5
/-! a valley told -/
theorem app_k2 {σ : cS} {w : Int32} {tl : Nat → Int32} {k : Nat} (hk : k = 7 ∨ k = 8 ∨ k = 9 ∨ k = 10 ∨ 22 ≤ k) : appC σ w tl k = σ k := by
  unfold appC
  split
  · exact things_k (by omega)
  · split
    · exact men_k (by omega)
    · split
      · unfold wantedS
        rw [up2_ne (by omega), up2_ne (by omega), up2_ne (by omega), up2_ne (by omega)]
      · split
        · exact up2_ne (by omega)
        · split
          · rw [up2_ne (by omega), up2_ne (by omega)]
          · exact up2_ne (by omega)
theorem app_0 {σ : cS} (h : OkW σ) {w : Int32} {tl : Nat → Int32} : (σ 0 0).toInt ≤ (appC σ w tl 0 0).toInt := by
  unfold appC
  split
  · rw [show thingsS σ (tl 0) (tl 1) (tl 2) (tl 3) 0 0 = σ 0 0 + 1 by simp [thingsS, up2_ap], suc_i h.1.1 (by decide)]
    omega
  · split
    · rw [men_k (by decide)]; exact Int.le_refl _
    · split
      · exact Int.le_of_eq rfl
      · split
        · exact Int.le_of_eq rfl
        · split <;> exact Int.le_of_eq rfl
theorem item_k2 {σ : cS} (h : OkW σ) {c : Nat → Int32} {en a : Nat} : (∀ k, (k = 7 ∨ k = 8 ∨ k = 9 ∨ k = 10 ∨ 22 ≤ k) → (itemC σ c en a).2.1 k = σ k) ∧ (σ 0 0).toInt ≤ ((itemC σ c en a).2.1 0 0).toInt := by
  unfold itemC
  by_cases c1 : ∃ f, f < 6 ∧ isWP c en a f ∧ fulP σ (nI f)
  · rw [cI_t c1]; exact ⟨fun _ _ => rfl, Int.le_refl _⟩
  · rw [cI_f c1]
    split
    · exact ⟨fun _ _ => rfl, Int.le_refl _⟩
    · by_cases c3 : fulP σ (wdC c en a).1
      · rw [cI_t c3]; exact ⟨fun _ _ => rfl, Int.le_refl _⟩
      · rw [cI_f c3]
        unfold itmC
        split
        · exact ⟨fun k hk => app_k2 hk, app_0 h⟩
        · exact ⟨fun _ _ => rfl, Int.le_refl _⟩
theorem OkS.item {σ : cS} (h : OkS σ) {c : Nat → Int32} {en a : Nat} (ha : a ≤ en) (ht : (itemC σ c en a).1 = true) : OkS (itemC σ c en a).2.1 := h.of ((item_ok h.1 ha).1 ht).1 (fun k hk => (item_k2 h.1).1 k (by omega)) (item_k2 h.1).2
theorem ok_valL {c : Nat → Int32} {en : Nat} : ∀ (f : Nat) (σ : cS) (a n : Nat), OkS σ → a ≤ en → (valL c en f σ a n).1 = true → OkS (valL c en f σ a n).2.1
  | 0, σ, a, n, h, ha, ht => h
  | f + 1, σ, a, n, h, ha, ht => by
    rw [valL] at ht ⊢
    by_cases c1 : a < en
    · rw [if_pos c1] at ht ⊢
      by_cases c2 : c a = 59
      · rw [if_pos c2] at ht ⊢
        by_cases c3 : (itemC σ c en (a + 1)).1 = true
        · rw [if_pos c3] at ht ⊢
          exact ok_valL f _ _ _ (h.item c1 c3) (item_ok h.1 c1).2 ht
        · rw [if_neg c3] at ht ⊢; exact h
      · rw [if_neg c2] at ht ⊢; exact h
    · rw [if_neg c1] at ht ⊢; exact h
theorem OkS.f9 {σ : cS} (h : OkS σ) {v : Int32} : OkS (up2 σ 9 0 v) := h.of (h.1.ux (by omega)) (fun k hk => up2_ne (by omega)) (Int.le_of_eq rfl)
theorem ok_valley {S : ST} (h : OkS S.1) (s : Int32) : OkS (valleyS S s).2.1 := by
  unfold valleyS
  refine ok_cI (S := S) (fun _ => h.no _) (fun h1 => ?_)
  split
  · rename_i ht
    show OkS (valV S (Int32.toNatClampNeg s)).2.1
    unfold valV valC at ht ⊢
    by_cases c3 : (itemC (up2 S.1 9 0 (-1)) (fun i => (S.2 (160 * Int32.toNatClampNeg s + i)).toInt32) (Int32.toNatClampNeg (S.1 24 (Int32.toNatClampNeg s))) 0).1 = true
    · rw [if_pos c3] at ht ⊢
      exact ok_valL _ _ _ _ (h.f9.item (Nat.zero_le _) c3) (item_ok h.f9.1 (Nat.zero_le _)).2 ht
    · rw [if_neg c3] at ht
      exact (Bool.false_ne_true ht).elim
  · exact OkS.no (S := (up2 S.1 9 0 _, S.2)) h.f9 _
/-! calls that leave the state as it is, but for refusals -/
theorem ok_thingOf {S : ST} (h : OkS S.1) (a b : Int32) : OkS (thingOfS S a b).2.1 := by
  unfold thingOfS
  exact ok_cI (S := S) (fun _ => h.no _) (fun _ => ok_cI (S := S) (fun _ => h) (fun _ => ok_cI (S := S) (fun _ => h) (fun _ => ok_cI (S := S) (fun _ => h) (fun _ => ok_cI (S := S) (fun _ => h) (fun _ => ok_cI (S := S) (fun _ => h) (fun _ => h))))))
theorem ok_manOf {S : ST} (h : OkS S.1) (a b : Int32) : OkS (manOfS S a b).2.1 := by
  unfold manOfS
  exact ok_cI (S := S) (fun _ => h.no _) (fun _ => ok_cI (S := S) (fun _ => h) (fun _ => h))
theorem ok_wantOf {S : ST} (h : OkS S.1) (a b : Int32) : OkS (wantOfS S a b).2.1 := by
  unfold wantOfS
  exact ok_cI (S := S) (fun _ => h.no _) (fun _ => ok_cI (S := S) (fun _ => h) (fun _ => ok_cI (S := S) (fun _ => h) (fun _ => ok_cI (S := S) (fun _ => h) (fun _ => h))))
theorem ok_far {S : ST} (h : OkS S.1) (a b : Int32) : OkS (farOS S a b).2.1 := by
  unfold farOS
  exact ok_cI (S := S) (fun _ => h) (fun _ => h.no _)
theorem ok_wrong {S : ST} (h : OkS S.1) (a b c : Int32) : OkS (wrongOS S a b c).2.1 := by
  unfold wrongOS
  exact ok_cI (S := S) (fun _ => h) (fun _ => h.no _)
theorem ok_judge {S : ST} (h : OkS S.1) (a b c : Int32) : OkS (judgeS S a b c).2.1 := by
  unfold judgeS
  exact ok_cI (S := S) (fun _ => h.no _) (fun _ => ok_cI (S := S) (fun _ => h.no _) (fun _ => ok_cI (S := S) (fun _ => h.no _) (fun _ => ok_cI (S := S) (fun _ => h.no _) (fun _ => ok_cI (S := S) (fun _ => h.no _) (fun _ => h)))))
theorem ok_end {S : ST} (h : OkS S.1) (a b : Int32) : OkS (endS S a b).2.1 := by
  unfold endS
  exact ok_cI (S := S) (fun _ => h.no _) (fun _ => h)
theorem ok_does {S : ST} (h : OkS S.1) (a b c : Int32) : OkS (doesS S a b c).2.1 := by
  unfold doesS
  exact ok_cI (S := S) (fun _ => h.no _) (fun _ => ok_cI (S := S) (fun _ => h.no _) (fun _ => h))
theorem ok_fewest {S : ST} (h : OkS S.1) (a b : Int32) : OkS (fewestS S a b).2.1 := by
  unfold fewestS
  exact ok_cI (S := S) (fun _ => h.no _) (fun _ => ok_cI (S := S) (fun _ => h.no _) (fun _ => ok_cI (S := S) (fun _ => h.no _) (fun _ => h)))
theorem ok_order {S : ST} (h : OkS S.1) (a b c d : Int32) : OkS (orderS S a b c d).2.1 := by
  unfold orderS
  exact ok_cI (S := S) (fun _ => h.no _) (fun _ => ok_cI (S := S) (fun _ => h.no _) (fun _ => ok_cI (S := S) (fun _ => h.no _) (fun _ => h)))
theorem ok_mill {S : ST} (h : OkS S.1) (a b c : Int32) : OkS (millS S a b c).2.1 := by
  unfold millS
  exact ok_cI (S := S) (fun _ => h.no10 _) (fun _ => ok_cI (S := S) (fun _ => h.no10 _) (fun _ => h))
theorem ok_weakest {S : ST} (h : OkS S.1) (a b : Int32) : OkS (weakestS S a b).2.1 := by
  unfold weakestS
  exact ok_cI (S := S) (fun _ => h.no _) (fun _ => ok_cI (S := S) (fun _ => h.no _) (fun _ => h))
theorem ok_helps {S : ST} (h : OkS S.1) (a b c d : Int32) : OkS (helpsS S a b c d).2.1 := by
  unfold helpsS
  exact ok_cI (S := S) (fun _ => h.no10 _) (fun _ => ok_cI (S := S) (fun _ => h.no10 _) (fun _ => ok_cI (S := S) (fun _ => h.no10 _) (fun _ => h)))
theorem ok_caught {S : ST} (h : OkS S.1) (a b c : Int32) : OkS (caughtS S a b c).2.1 := by
  unfold caughtS
  exact ok_cI (S := S) (fun _ => h.no _) (fun _ => ok_cI (S := S) (fun _ => h) (fun _ => h.no _))
theorem ok_mean {S : ST} (h : OkS S.1) (a b c : Int32) : OkS (meanS S a b c).2.1 := by
  unfold meanS
  exact ok_cI (S := S) (fun _ => h.no _) (fun _ => ok_cI (S := S) (fun _ => h) (fun _ => h.no _))
theorem ok_cast {S : ST} (h : OkS S.1) (a b : Int32) : OkS (castS S a b).2.1 := by
  unfold castS
  exact ok_cI (S := S) (fun _ => h.no10 _) (fun _ => h)
theorem ok_handovers {S : ST} (h : OkS S.1) (a b : Int32) : OkS (handoversS S a b).2.1 := by
  unfold handoversS
  exact ok_cI (S := S) (fun _ => h.no10 _) (fun _ => ok_cI (S := S) (fun _ => h.no10 _) (fun _ => h))
theorem ok_given {S : ST} (h : OkS S.1) (a : Int32) : OkS (givenS S a).2.1 := by
  unfold givenS
  exact ok_cI (S := S) (fun _ => h.no10 _) (fun _ => h)
