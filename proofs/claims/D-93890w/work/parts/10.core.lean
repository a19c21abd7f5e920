/-! MEMORY: size; kind of a cell (0: unknown, (1,c): object of class c, (2,t): array of type t, (3,i): String constant i, (4,_): the script); lengths; ints; longs; references -/
set_option maxRecDepth 100000
abbrev PM : Type := Nat × (Nat → Nat × Nat) × (Nat → Nat) × (Nat → Nat → Int32) × (Nat → Nat → Int64) × (Nat → Nat → Option Nat)
abbrev mN (M : PM) : Nat := M.1
abbrev mK (M : PM) : Nat → Nat × Nat := M.2.1
abbrev mZ (M : PM) : Nat → Nat := M.2.2.1
abbrev mI (M : PM) : Nat → Nat → Int32 := M.2.2.2.1
abbrev mL (M : PM) : Nat → Nat → Int64 := M.2.2.2.2.1
abbrev mR (M : PM) : Nat → Nat → Option Nat := M.2.2.2.2.2
def up2 {α : Type} (f : Nat → Nat → α) (a k : Nat) (v : α) : Nat → Nat → α := fun b => if b = a then va_up (f a) k v else f b
theorem up2_self {α : Type} (f : Nat → Nat → α) (a k : Nat) (v : α) : up2 f a k v a = va_up (f a) k v := if_pos rfl
theorem up2_ne {α : Type} {f : Nat → Nat → α} {a k b : Nat} {v : α} (h : b ≠ a) : up2 f a k v b = f b := if_neg h
def sI (M : PM) (a k : Nat) (v : Int32) : PM := (M.1, M.2.1, M.2.2.1, up2 M.2.2.2.1 a k v, M.2.2.2.2)
def sL (M : PM) (a k : Nat) (v : Int64) : PM := (M.1, M.2.1, M.2.2.1, M.2.2.2.1, up2 M.2.2.2.2.1 a k v, M.2.2.2.2.2)
def sR (M : PM) (a k : Nat) (v : Option Nat) : PM := (M.1, M.2.1, M.2.2.1, M.2.2.2.1, M.2.2.2.2.1, up2 M.2.2.2.2.2 a k v)
/-- a new cell of kind κ and length n at the end -/
def nw (M : PM) (κ : Nat × Nat) (n : Nat) : PM := (M.1 + 1, va_up M.2.1 M.1 κ, va_up M.2.2.1 M.1 n, va_up M.2.2.2.1 M.1 (fun _ => 0), va_up M.2.2.2.2.1 M.1 (fun _ => 0), va_up M.2.2.2.2.2 M.1 (fun _ => none))
/-- the heap has grown by cells of which nothing is known -/
def grow (M : PM) (n : Nat) : PM := (n, fun a => if a < M.1 then M.2.1 a else (0, 0), M.2.2)
abbrev OM : Type := Nat × va_G × (Nat → ClassId) × (Nat → Nat) × (Nat → Nat)
abbrev clX : List vw_C := [(RX0, TX0, 9), (RX1, TX1, 2), (RX2, TX2, 5), (RX3, TX3, 18), (RX4, TX4, 1), (RX5, TX5, 50), (RX6, TX6, 7), (RX4, TX4, 1), (RX8, TX8, 1), (RX9, TX9, 1), (RX10, TX10, 1), (RX11, TX11, 1), (RX12, TX12, 3), (RX13, TX13, 3), (RX14, TX14, 3), (RX15, TX15, 3), (RX16, TX16, 3), (RX17, TX17, 3), (RX18, TX18, 3), (RX19, TX19, 3), (RX20, TX20, 7)]
def ftX (c : Nat) : Nat → FieldType := match c with
  | 0 => tyX0 | 1 => tyX1 | 2 => tyX2 | 3 => tyX3 | 4 => tyX4 | 5 => tyX5 | 6 => tyX6 | 7 => tyX4 | 8 => tyX8 | 9 => tyX9 | 10 => tyX10
  | 11 => tyX11 | 12 => tyX12 | 13 => tyX13 | 14 => tyX14 | 15 => tyX15 | 16 => tyX16 | 17 => tyX17 | 18 => tyX18 | 19 => tyX19 | _ => tyX20
abbrev atX : List FieldType := [.int, .byte, .short, .boolean, .long, .object "NoFartherThanAThrow$Shelf", .object "NoFartherThanAThrow$Thing", .array .int]
def fv (ty : FieldType) (i : Int32) (r : Option Nat) : Value := match ty with
  | .object _ => va_rf r
  | .array _ => va_rf r
  | _ => .int i
def evV (ty : FieldType) (i : Int32) (l : Int64) (r : Option Nat) : Value := match ty with
  | .object _ => va_rf r
  | .array _ => va_rf r
  | .long => .long l
  | _ => .int i
def tysX (Ω : OM) : List (ClassId × FieldType) := [(Ω.2.2.1 0, .int), (Ω.2.2.1 1, .byte), (Ω.2.2.1 2, .short), (Ω.2.2.1 3, .boolean), (Ω.2.2.1 4, .long), (Ω.2.2.1 5, .object "NoFartherThanAThrow$Shelf"), (Ω.2.2.1 6, .object "NoFartherThanAThrow$Thing"), (Ω.2.2.1 7, .array .int)]
/-- what is written may only lie from the law's own start on -/
abbrev Fr (Ω : OM) : Nat → Prop := fun q => Ω.1 ≤ q
def okA (Ω : OM) (M : PM) (H : Heap) (a : Nat) : Prop := match M.2.1 a with
  | (1, c) => Ω.1 ≤ a ∧ ∃ q, clX[c]? = some q ∧ t_OB a (Ω.2.1.1 c) q.2.2 (Ω.2.1.2 c) H (fun k => fv (ftX c k) (mI M a k) (mR M a k))
  | (2, t) => Ω.1 ≤ a ∧ ∃ ty, atX[t]? = some ty ∧ H[a]? = some (arrV (Ω.2.2.1 t) (mZ M a) (fun k => evV ty (mI M a k) (mL M a k) (mR M a k)))
  | (3, i) => a = Ω.2.2.2.1 i ∧ i < 6 ∧ mR M a 0 = some (Ω.2.2.2.2 i)
  | (4, _) => a = Ω.2.2.2.2 6 ∧ mZ M a = Ω.2.2.2.2 7 ∧ ∀ j, mI M a j = Int32.ofNat (Ω.2.2.2.2 (8 + j))
  | _ => True
def Rel (Ω : OM) (M : PM) (H : Heap) : Prop := H.size = M.1 ∧ Ω.1 ≤ M.1 ∧ (∀ a, okA Ω M H a) ∧ ∀ i, i < 6 → M.2.1 (Ω.2.2.2.1 i) = (3, i)
theorem Rel.ob {Ω : OM} {M : PM} {H : Heap} (h : Rel Ω M H) {a c : Nat} (hk : mK M a = (1, c)) : Ω.1 ≤ a ∧ ∃ q, clX[c]? = some q ∧ t_OB a (Ω.2.1.1 c) q.2.2 (Ω.2.1.2 c) H (fun k => fv (ftX c k) (mI M a k) (mR M a k)) := by
  have h1 := h.2.2.1 a
  unfold okA at h1
  rw [show M.2.1 a = (1, c) from hk] at h1
  exact h1
theorem Rel.ar {Ω : OM} {M : PM} {H : Heap} (h : Rel Ω M H) {a t : Nat} (hk : mK M a = (2, t)) : Ω.1 ≤ a ∧ ∃ ty, atX[t]? = some ty ∧ H[a]? = some (arrV (Ω.2.2.1 t) (mZ M a) (fun k => evV ty (mI M a k) (mL M a k) (mR M a k))) := by
  have h1 := h.2.2.1 a
  unfold okA at h1
  rw [show M.2.1 a = (2, t) from hk] at h1
  exact h1
/-- a cell's picture rests on that cell and on the memory at it alone -/
theorem okA.same {Ω : OM} {M M' : PM} {H H' : Heap} {a : Nat} (h : okA Ω M H a) (hh : H'[a]? = H[a]?) (k : M'.2.1 a = M.2.1 a) (z : mZ M' a = mZ M a) (i : mI M' a = mI M a) (l : mL M' a = mL M a) (r : mR M' a = mR M a) : okA Ω M' H' a := by
  unfold okA at h ⊢
  rw [k]
  generalize M.2.1 a = κ at h ⊢
  match κ, h with
  | (1, c), h =>
    obtain ⟨h0, q, h1, h2⟩ := h
    refine ⟨h0, q, h1, ?_⟩
    rw [i, r]
    exact h2.kept hh
  | (2, t), h =>
    obtain ⟨h0, ty, h1, h2⟩ := h
    refine ⟨h0, ty, h1, ?_⟩
    rw [i, l, r, z, hh]
    exact h2
  | (3, j), h => exact ⟨h.1, h.2.1, by rw [r]; exact h.2.2⟩
  | (4, _), h => exact ⟨h.1, by rw [z]; exact h.2.1, by rw [i]; exact h.2.2⟩
  | (0, _), _ => trivial
  | (n + 5, _), _ => trivial
/-- a store into one known cell -/
theorem Rel.put {Ω : OM} {M M' : PM} {H H' : Heap} {a : Nat} (h : Rel Ω M H) (hz : H'.size = H.size) (ho : ∀ q, q ≠ a → H'[q]? = H[q]?) (n : M'.1 = M.1) (k : M'.2.1 = M.2.1) (z : ∀ q, q ≠ a → mZ M' q = mZ M q) (i : ∀ q, q ≠ a → mI M' q = mI M q) (l : ∀ q, q ≠ a → mL M' q = mL M q) (r : ∀ q, q ≠ a → mR M' q = mR M q) (ha : okA Ω M' H' a) : Rel Ω M' H' := by
  refine ⟨by rw [hz, n]; exact h.1, by rw [n]; exact h.2.1, fun q => ?_, by rw [k]; exact h.2.2.2⟩
  by_cases hq : q = a
  · rw [hq]; exact ha
  · exact (h.2.2.1 q).same (ho q hq) (by rw [k]) (z q hq) (i q hq) (l q hq) (r q hq)
theorem okA.lt {Ω : OM} {M : PM} {H : Heap} {a : Nat} (h : okA Ω M H a) {c : Nat} (hk : M.2.1 a = (1, c) ∨ M.2.1 a = (2, c)) : a < H.size := by
  unfold okA at h
  rcases hk with e | e
  · rw [e] at h
    obtain ⟨-, q, -, cell, h2, -⟩ := h
    exact (Array.getElem?_eq_some_iff.mp h2).1
  · rw [e] at h
    obtain ⟨-, ty, -, h2⟩ := h
    exact (Array.getElem?_eq_some_iff.mp h2).1
/-- the heap has grown: nothing known has changed -/
theorem Rel.grow {Ω : OM} {M : PM} {H H' : Heap} (h : Rel Ω M H) (hz : H.size ≤ H'.size) (ho : ∀ q, q < H.size → H'[q]? = H[q]?) (hs : ∀ i, i < 6 → Ω.2.2.2.1 i < Ω.1) : Rel Ω (grow M H'.size) H' := by
  have hb : H.size = M.1 := h.1
  refine ⟨rfl, Nat.le_trans h.2.1 (by rw [← hb]; exact hz), fun a => ?_, fun i hi => ?_⟩
  · by_cases ha : a < M.1
    · have h1 := h.2.2.1 a
      exact h1.same (M' := _root_.Jvm.Pilot.@@N@@.grow M H'.size) (ho a (by rw [hb]; exact ha)) (if_pos ha) rfl rfl rfl rfl
    · unfold okA
      rw [show (_root_.Jvm.Pilot.@@N@@.grow M H'.size).2.1 a = (0, 0) from if_neg ha]
      trivial
  · show (if Ω.2.2.2.1 i < M.1 then _ else _) = _
    rw [if_pos (Nat.lt_of_lt_of_le (hs i hi) h.2.1)]
    exact h.2.2.2 i hi
theorem Rel.new {Ω : OM} {M : PM} {H H' : Heap} {κ : Nat × Nat} {n : Nat} (h : Rel Ω M H) (hz : H'.size = H.size + 1) (ho : ∀ q, q < H.size → H'[q]? = H[q]?) (ha : okA Ω (nw M κ n) H' M.1) (hs : ∀ i, i < 6 → Ω.2.2.2.1 i < Ω.1) : Rel Ω (nw M κ n) H' := by
  have hb : H.size = M.1 := h.1
  refine ⟨by rw [hz, hb]; rfl, Nat.le_trans h.2.1 (Nat.le_succ _), fun a => ?_, fun i hi => ?_⟩
  · by_cases hq : a = M.1
    · rw [hq]; exact ha
    · by_cases hl : a < M.1
      · exact (h.2.2.1 a).same (ho a (by rw [hb]; exact hl)) (if_neg hq) (if_neg hq) (if_neg hq) (if_neg hq) (if_neg hq)
      · have h1 := h.2.2.1 a
        unfold okA at h1 ⊢
        rw [show (nw M κ n).2.1 a = M.2.1 a from if_neg hq]
        generalize hκ : M.2.1 a = k at h1 ⊢
        match k, h1 with
        | (1, c), h1 => exact absurd ((h.2.2.1 a).lt (Or.inl hκ)) (by rw [hb]; exact hl)
        | (2, c), h1 => exact absurd ((h.2.2.1 a).lt (Or.inr hκ)) (by rw [hb]; exact hl)
        | (3, j), h1 => exact ⟨h1.1, h1.2.1, by rw [show mR (nw M κ n) a = mR M a from if_neg hq]; exact h1.2.2⟩
        | (4, j), h1 => exact ⟨h1.1, by rw [show mZ (nw M κ n) a = mZ M a from if_neg hq]; exact h1.2.1, by rw [show mI (nw M κ n) a = mI M a from if_neg hq]; exact h1.2.2⟩
        | (0, _), _ => trivial
        | (n + 5, _), _ => trivial
  · show (if Ω.2.2.2.1 i = M.1 then _ else _) = _
    rw [if_neg (Nat.ne_of_lt (Nat.lt_of_lt_of_le (hs i hi) h.2.1))]
    exact h.2.2.2 i hi
/-! LOCALS by their places -/
def enL : Nat → List (Option Value) → List (Nat × Value)
  | _, [] => []
  | k, some v :: t => (k, v) :: enL (k + 1) t
  | k, none :: t => enL (k + 1) t
theorem enL_mem : ∀ (ls : List (Option Value)) (k j : Nat) (w : Value), (j, w) ∈ enL k ls ↔ ∃ i, j = k + i ∧ ls[i]? = some (some w)
  | [], k, j, w => by simp [enL]
  | none :: t, k, j, w => by
    rw [enL, enL_mem t (k + 1) j w]
    constructor
    · rintro ⟨i, h1, h2⟩
      exact ⟨i + 1, by omega, h2⟩
    · rintro ⟨i, h1, h2⟩
      cases i with
      | zero => simp at h2
      | succ i => exact ⟨i, by omega, h2⟩
  | some v :: t, k, j, w => by
    rw [enL, List.mem_cons, enL_mem t (k + 1) j w]
    constructor
    · rintro (h | ⟨i, h1, h2⟩)
      · cases h
        exact ⟨0, rfl, rfl⟩
      · exact ⟨i + 1, by omega, h2⟩
    · rintro ⟨i, h1, h2⟩
      cases i with
      | zero =>
        simp at h2
        exact Or.inl (by rw [h1, h2]; rfl)
      | succ i => exact Or.inr ⟨i, by omega, h2⟩
abbrev hasL (lsr : Array Slot) (nL : Nat) (ls : List (Option Value)) : Prop := lv_has lsr nL (enL 0 ls) ∧ ls.length = nL
theorem hasL.at {lsr : Array Slot} {nL : Nat} {ls : List (Option Value)} (h : hasL lsr nL ls) {i : Nat} {v : Value} (hi : ls[i]? = some (some v)) : lsr[i]? = some (.val v) := h.1.2.2 (i, v) ((enL_mem ls 0 i v).mpr ⟨i, by omega, hi⟩)
/-- the place ahead holds no long -/
def nol (o : Option (Option Value)) : Bool := match o with
  | some (some (.long _)) => false
  | some (some (.double _)) => false
  | _ => true
theorem nol_cat {o : Option (Option Value)} (h : nol o = true) {w : Value} (e : o = some (some w)) : ¬ w.category = 2 := by
  rw [e] at h
  cases w <;> simp [nol] at h <;> simp [Value.category]
theorem hasL.set1 {lsr : Array Slot} {nL : Nat} {ls : List (Option Value)} {i : Nat} {v : Value} (h : lv_has lsr nL ((i, v) :: (enL 0 ls).filter (fun q => !(q.1 == i) && !(q.1 + 1 == i && q.2.category == 2)))) (hi : i < ls.length) (hlen : ls.length = nL) (hp : i = 0 ∨ nol ls[i - 1]? = true) : hasL lsr nL (ls.set i (some v)) := by
  refine ⟨?_, by rw [List.length_set]; exact hlen⟩
  refine ⟨h.1, h.2.1, fun q hq => h.2.2 q ?_⟩
  obtain ⟨j, w⟩ := q
  obtain ⟨k, h1, h2⟩ := (enL_mem _ 0 j w).mp hq
  have hk : j = k := by omega
  subst hk
  by_cases hj : i = j
  · subst hj
    rw [List.getElem?_set_self hi] at h2
    cases h2
    exact List.mem_cons_self
  · rw [List.getElem?_set_ne hj] at h2
    refine List.mem_cons_of_mem _ (List.mem_filter.mpr ⟨(enL_mem _ 0 j w).mpr ⟨j, by omega, h2⟩, ?_⟩)
    have a1 : (j == i) = false := by simp [Ne.symm hj]
    have a2 : (j + 1 == i && w.category == 2) = false := by
      by_cases hc : j + 1 = i
      · rcases hp with h0 | hp
        · omega
        · have := nol_cat hp (w := w) (by rw [show i - 1 = j by omega]; exact h2)
          simp [this]
      · simp [hc]
    simp only [a1, a2]
    rfl
theorem hasL.set2 {lsr : Array Slot} {nL : Nat} {ls : List (Option Value)} {i : Nat} {v : Value} (h : lv_has lsr nL ((i, v) :: (enL 0 ls).filter (fun q => !(q.1 == i) && (!(q.1 == i + 1) && !(q.1 + 1 == i && q.2.category == 2))))) (hi : i < ls.length) (hlen : ls.length = nL) (hp : i = 0 ∨ nol ls[i - 1]? = true) : hasL lsr nL ((ls.set i (some v)).set (i + 1) none) := by
  refine ⟨?_, by rw [List.length_set, List.length_set]; exact hlen⟩
  refine ⟨h.1, h.2.1, fun q hq => h.2.2 q ?_⟩
  obtain ⟨j, w⟩ := q
  obtain ⟨k, h1, h2⟩ := (enL_mem _ 0 j w).mp hq
  have hk : j = k := by omega
  subst hk
  by_cases hj1 : i + 1 = j
  · subst hj1
    by_cases hl : i + 1 < ls.length
    · rw [List.getElem?_set_self (by simpa using hl)] at h2
      cases h2
    · rw [List.getElem?_eq_none (by simpa using hl)] at h2
      cases h2
  · rw [List.getElem?_set_ne hj1] at h2
    by_cases hj : i = j
    · subst hj
      rw [List.getElem?_set_self hi] at h2
      cases h2
      exact List.mem_cons_self
    · rw [List.getElem?_set_ne hj] at h2
      refine List.mem_cons_of_mem _ (List.mem_filter.mpr ⟨(enL_mem _ 0 j w).mpr ⟨j, by omega, h2⟩, ?_⟩)
      have a1 : (j == i) = false := by simp [Ne.symm hj]
      have a3 : (j == i + 1) = false := by simp [Ne.symm hj1]
      have a2 : (j + 1 == i && w.category == 2) = false := by
        by_cases hc : j + 1 = i
        · rcases hp with h0 | hp
          · omega
          · have := nol_cat hp (w := w) (by rw [show i - 1 = j by omega]; exact h2)
            simp [this]
        · simp [hc]
      simp only [a1, a2, a3]
      rfl
