/-! RULES of the X side: exceptions that the machine throws, casts, copies -/
set_option maxRecDepth 100000
abbrev nmA : List String := ["java/lang/IndexOutOfBoundsException", "java/lang/RuntimeException", "java/lang/Exception"]
abbrev nmC : List String := ["java/lang/RuntimeException", "java/lang/Exception"]
abbrev exA : String := "java/lang/ArrayIndexOutOfBoundsException"
abbrev exC : String := "java/lang/ClassCastException"
/-- every word that a throw of E by the machine needs is there -/
def atOk (E : String) (names : List String) : Prop := (vx_atM E names).all (fun w => (decide (w ∈ tables_1) || decide (w ∈ k2_sels lw_privs)) && (goodWord w || (isSp w && w.onTables)) && vx_ot w) = true
theorem atA : atOk exA nmA := by unfold atOk; decide +kernel
theorem atC : atOk exC nmC := by unfold atOk; decide +kernel
theorem atOk.use {E : String} {names : List String} (h : atOk E names) {Ω : OM} {s : State} {args : Array Value} (hts : ∀ w ∈ lw_all, w.before args s = true) (hCx : Cx Ω s) : (∀ w ∈ vx_atM E names, w.before args s = true) ∧ ∀ w ∈ vx_atM E names, vx_ot w = true := by
  refine ⟨fun w hw => ?_, fun w hw => ?_⟩
  · have h1 := List.all_eq_true.mp h w hw
    simp only [Bool.and_eq_true, Bool.or_eq_true, decide_eq_true_eq] at h1
    obtain ⟨⟨h1, h2⟩, -⟩ := h1
    have ht : w ∈ lw_tbl := by
      show w ∈ k2_sels lw_privs ++ tables_1
      rcases h1 with h1 | h1
      · exact List.mem_append_right _ h1
      · exact List.mem_append_left _ h1
    rcases h2 with h2 | h2
    · exact hts w (lw_g ht h2)
    · exact va_Nw.use h2.2 (hCx.2.2.2.1 w ht h2.1)
  · have h1 := List.all_eq_true.mp h w hw
    simp only [Bool.and_eq_true] at h1
    exact h1.2
section
variable {G : GT} {bc bs : Nat} {M : PM} {pc : Nat} {ls : List (Option Value)} {st : List Value}
/-- the machine throws E with this text -/
theorem r_vm {E text : String} {names : List String} (nb : Nat) (hat : atOk E names) (hcls : Bundle.fit E = true) (hnames : ∀ n ∈ names, Bundle.fit n = true) (hsoe : (E == "java/lang/StackOverflowError") = false) (hoom : (E == "java/lang/OutOfMemoryError") = false)
    (hF : names.length + 4 < gF G) (hO : (st.map fun v => v.category).sum + 10240 ≤ gO G) (hsh : 13 * names.length + 55 ≤ 10240) (hnb1 : nb ≤ 1000) (h1c : 3 ≤ bc) (h2c : nb + 10 ≤ bs) (kk : ∀ N q, M.1 ≤ N → Tx G (bc - 3) (bs - (nb + 10)) (grow M N) pc ls q E)
    {Ω : OM} {l : Launch} {p : Program} {e : Env} {s : State} {m : MethodId} {args : Array Value} {below : List Frame} {meth : Method} {c : Code} (F : Fx Ω G l p s m args meth c) {H : Heap} {locs : List Loc} {cells slots : Nat} {lsr : Array Slot} (hR : Rel Ω M H) (hS : va_S (Fr Ω) s.heap H locs) (hl : hasL lsr (gn G) ls) (h1 : cells + bc ≤ gC G) (h2 : slots + bs ≤ gS G)
    (htext : (text == notModelled) = false) (hnb : (stringBytes (stringToUtf16 text)).size ≤ nb) :
    vx_Note p l e (gR G) s m args below meth c H locs cells slots (vx_MQ below (zQ Ω (gQ G)) (zX Ω (gX G)) args s (gC G) (gS G) (Fr Ω)) (F0 m pc lsr st) E text := by
  obtain ⟨hx, hc, -, hlk, hml, hown, hts, hCx, htb, hfl, -⟩ := id F
  obtain ⟨a1, a2⟩ := hat.use hts hCx
  refine vx_vm (A := Fr Ω) (names := names) (nb := nb) hx hfl hcls hnames hsoe hoom a1 a2 hCx.2.2.1.1 hCx.2.2.1.2 hS (by rw [hml]; exact hl.1.1) htext hnb hnb1 hF hO hsh (by show cells + 3 ≤ gC G; omega) (by show slots + (nb + 10) ≤ gS G; omega) hlk fun H1 q9 ce z1 o1 hS1 g1 g2 g3 => ?_
  exact kk H1.size q9 (by rw [← hR.1]; exact z1) Ω l p e s m args below meth c F H1 locs (cells + 3) (slots + (nb + 10)) lsr st ce (hR.grow z1 o1 hCx.low) hS1 hl (by omega) (by omega) g1 g2 g3
theorem r_aaldX {a t n : Nat} {i : Int32} (d : decode (gc G) pc = .ok (.aaload, 1)) (hK : mK M a = (2, t)) (hz : mZ M a = n) (hn : n < 2 ^ 31) (hout : ¬ vp_in i n) (hF : 7 < gF G) (hO : (st.map fun v => v.category).sum + 10240 ≤ gO G) (h1c : 3 ≤ bc) (h2c : 222 ≤ bs) (kk : ∀ N q, M.1 ≤ N → Tx G (bc - 3) (bs - 222) (grow M N) pc ls q exA) : Wx G bc bs M pc ls (.int i :: .ref a :: st) := by
  intro Ω l p e s m args below meth c F H locs cells slots lsr hR hS hl h1 h2
  obtain ⟨hb, ty, hty, hc⟩ := hR.ar hK
  subst hz
  have k := r_vm (E := exA) (st := st) 212 atA (by decide +kernel) (by decide +kernel) (by decide +kernel) (by decide +kernel) hF hO (by decide) (by decide) h1c h2c kk (e := e) (below := below) F hR hS hl h1 h2 (index_text_modelled i (mZ M a)) (index_text_bytes i hn)
  intro T hT X
  obtain ⟨t', st', q⟩ := k T hT X
  refine ⟨t', ?_, q⟩
  have h9 := X.aaloadOut F.1 (by rw [hT]; exact hc) (arrT F.2.2.2.2.2.2.2.1 hty _ _) (j := i) (by rw [arrV_size]; exact Classical.byContradiction hout) (g := F0 m pc lsr (.int i :: .ref a :: st)) rfl (rest := st) rfl (by rw [F.2.1]; exact d) t'
  simp only [arrV_size] at h9
  exact h9 st'
end
