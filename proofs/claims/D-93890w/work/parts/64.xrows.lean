/-! X: rows (printed by gen/mk_x64.py) -/
set_option maxRecDepth 100000
/-- what a row of the sort o keeps of a long, as an int -/
def kp32 (o : Int32) (v : Int64) : Int32 := if o = 0 then v.toInt32.toInt8.toInt32 else if o = 1 then v.toInt32.toInt16.toInt32 else v.toInt32
/-- v put at i of the row's elements at b -/
def puM (M : PM) (o : Int32) (b i : Nat) (v : Int64) : PM := if o = 3 then sL M b i v else sI M b i (kp32 o v)
theorem so4 {o : Int32} (h : bd o 0 3) : o = 0 ∨ o = 1 ∨ o = 2 ∨ o = 3 := by
  have c0 : (0 : Int32).toInt = 0 := by decide
  have c1 : (1 : Int32).toInt = 1 := by decide
  have c2 : (2 : Int32).toInt = 2 := by decide
  have c3 : (3 : Int32).toInt = 3 := by decide
  obtain ⟨h1, h2⟩ := h
  simp only [i_eq, c0, c1, c2, c3]
  omega
theorem n8b (x : Int32) : vp_nar .byte x.toInt8.toInt32 = x.toInt8.toInt32 := by
  show (x.toInt8.toInt32).toInt8.toInt32 = x.toInt8.toInt32
  rw [Int8.toInt8_toInt32]
theorem n16s (x : Int32) : vp_nar .short x.toInt16.toInt32 = x.toInt16.toInt32 := by
  show (x.toInt16.toInt32).toInt16.toInt32 = x.toInt16.toInt32
  rw [Int16.toInt16_toInt32]
section
variable {G : GT} {bc bs : Nat} {M : PM} {pc : Nat} {ls : List (Option Value)} {st : List Value}
theorem r_X0_sort {a b n : Nat} {o : Int32} (hw : rwP M (8 + Int32.toNatClampNeg o) (rT o) a b n) (ho : bd o 0 3) (d : decode (gc G) pc = .ok (.invokevirtual 184, 3)) (hown : (gy G).cls = "NoFartherThanAThrow") (hcat : (st.map fun v => v.category).sum ≤ 8) (hF : 1 ≤ gF G) (hO : 20 ≤ gO G) (kk : Wx G bc bs M (pc + 3) ls (.int o :: st)) : Wx G bc bs M pc ls (.ref a :: st) := by
  rcases so4 ho with rfl | rfl | rfl | rfl
  · have hw' : rwP M 8 1 a b n := hw
    refine r_o1 (bc' := bc) (bs' := bs) (ct_X8_sort  hw') (by rw [hown]; exact k_X0_184_8) d hw'.1 hcat ⟨hF, hO⟩ ⟨Nat.le_refl _, Nat.le_refl _⟩ (r_ci fun r' M' p' => ?_) nox
    obtain ⟨rfl, p'⟩ := p'
    have p' := Eq.symm (show _ = _ from p')
    subst p'
    exact kk
  · have hw' : rwP M 9 2 a b n := hw
    refine r_o1 (bc' := bc) (bs' := bs) (ct_X9_sort  hw') (by rw [hown]; exact k_X0_184_9) d hw'.1 hcat ⟨hF, hO⟩ ⟨Nat.le_refl _, Nat.le_refl _⟩ (r_ci fun r' M' p' => ?_) nox
    obtain ⟨rfl, p'⟩ := p'
    have p' := Eq.symm (show _ = _ from p')
    subst p'
    exact kk
  · have hw' : rwP M 10 0 a b n := hw
    refine r_o1 (bc' := bc) (bs' := bs) (ct_X10_sort  hw') (by rw [hown]; exact k_X0_184_10) d hw'.1 hcat ⟨hF, hO⟩ ⟨Nat.le_refl _, Nat.le_refl _⟩ (r_ci fun r' M' p' => ?_) nox
    obtain ⟨rfl, p'⟩ := p'
    have p' := Eq.symm (show _ = _ from p')
    subst p'
    exact kk
  · have hw' : rwP M 11 4 a b n := hw
    refine r_o1 (bc' := bc) (bs' := bs) (ct_X11_sort  hw') (by rw [hown]; exact k_X0_184_11) d hw'.1 hcat ⟨hF, hO⟩ ⟨Nat.le_refl _, Nat.le_refl _⟩ (r_ci fun r' M' p' => ?_) nox
    obtain ⟨rfl, p'⟩ := p'
    have p' := Eq.symm (show _ = _ from p')
    subst p'
    exact kk
theorem r_X0_length {a b n : Nat} {o : Int32} (hw : rwP M (8 + Int32.toNatClampNeg o) (rT o) a b n) (ho : bd o 0 3) (d : decode (gc G) pc = .ok (.invokevirtual 11, 3)) (hown : (gy G).cls = "NoFartherThanAThrow") (hcat : (st.map fun v => v.category).sum ≤ 8) (hF : 1 ≤ gF G) (hO : 20 ≤ gO G) (kk : Wx G bc bs M (pc + 3) ls (.int (nI n) :: st)) : Wx G bc bs M pc ls (.ref a :: st) := by
  rcases so4 ho with rfl | rfl | rfl | rfl
  · have hw' : rwP M 8 1 a b n := hw
    refine r_o1 (bc' := bc) (bs' := bs) (ct_X8_length  hw') (by rw [hown]; exact k_X0_11_8) d hw'.1 hcat ⟨hF, hO⟩ ⟨Nat.le_refl _, Nat.le_refl _⟩ (r_ci fun r' M' p' => ?_) nox
    obtain ⟨rfl, p'⟩ := p'
    have p' := Eq.symm (show _ = _ from p')
    subst p'
    exact kk
  · have hw' : rwP M 9 2 a b n := hw
    refine r_o1 (bc' := bc) (bs' := bs) (ct_X9_length  hw') (by rw [hown]; exact k_X0_11_9) d hw'.1 hcat ⟨hF, hO⟩ ⟨Nat.le_refl _, Nat.le_refl _⟩ (r_ci fun r' M' p' => ?_) nox
    obtain ⟨rfl, p'⟩ := p'
    have p' := Eq.symm (show _ = _ from p')
    subst p'
    exact kk
  · have hw' : rwP M 10 0 a b n := hw
    refine r_o1 (bc' := bc) (bs' := bs) (ct_X10_length  hw') (by rw [hown]; exact k_X0_11_10) d hw'.1 hcat ⟨hF, hO⟩ ⟨Nat.le_refl _, Nat.le_refl _⟩ (r_ci fun r' M' p' => ?_) nox
    obtain ⟨rfl, p'⟩ := p'
    have p' := Eq.symm (show _ = _ from p')
    subst p'
    exact kk
  · have hw' : rwP M 11 4 a b n := hw
    refine r_o1 (bc' := bc) (bs' := bs) (ct_X11_length  hw') (by rw [hown]; exact k_X0_11_11) d hw'.1 hcat ⟨hF, hO⟩ ⟨Nat.le_refl _, Nat.le_refl _⟩ (r_ci fun r' M' p' => ?_) nox
    obtain ⟨rfl, p'⟩ := p'
    have p' := Eq.symm (show _ = _ from p')
    subst p'
    exact kk
theorem r_X19_length {a b n : Nat} {o : Int32} (hw : rwP M (8 + Int32.toNatClampNeg o) (rT o) a b n) (ho : bd o 0 3) (d : decode (gc G) pc = .ok (.invokevirtual 23, 3)) (hown : (gy G).cls = "NoFartherThanAThrow$Reader") (hcat : (st.map fun v => v.category).sum ≤ 8) (hF : 1 ≤ gF G) (hO : 20 ≤ gO G) (kk : Wx G bc bs M (pc + 3) ls (.int (nI n) :: st)) : Wx G bc bs M pc ls (.ref a :: st) := by
  rcases so4 ho with rfl | rfl | rfl | rfl
  · have hw' : rwP M 8 1 a b n := hw
    refine r_o1 (bc' := bc) (bs' := bs) (ct_X8_length  hw') (by rw [hown]; exact k_X19_23_8) d hw'.1 hcat ⟨hF, hO⟩ ⟨Nat.le_refl _, Nat.le_refl _⟩ (r_ci fun r' M' p' => ?_) nox
    obtain ⟨rfl, p'⟩ := p'
    have p' := Eq.symm (show _ = _ from p')
    subst p'
    exact kk
  · have hw' : rwP M 9 2 a b n := hw
    refine r_o1 (bc' := bc) (bs' := bs) (ct_X9_length  hw') (by rw [hown]; exact k_X19_23_9) d hw'.1 hcat ⟨hF, hO⟩ ⟨Nat.le_refl _, Nat.le_refl _⟩ (r_ci fun r' M' p' => ?_) nox
    obtain ⟨rfl, p'⟩ := p'
    have p' := Eq.symm (show _ = _ from p')
    subst p'
    exact kk
  · have hw' : rwP M 10 0 a b n := hw
    refine r_o1 (bc' := bc) (bs' := bs) (ct_X10_length  hw') (by rw [hown]; exact k_X19_23_10) d hw'.1 hcat ⟨hF, hO⟩ ⟨Nat.le_refl _, Nat.le_refl _⟩ (r_ci fun r' M' p' => ?_) nox
    obtain ⟨rfl, p'⟩ := p'
    have p' := Eq.symm (show _ = _ from p')
    subst p'
    exact kk
  · have hw' : rwP M 11 4 a b n := hw
    refine r_o1 (bc' := bc) (bs' := bs) (ct_X11_length  hw') (by rw [hown]; exact k_X19_23_11) d hw'.1 hcat ⟨hF, hO⟩ ⟨Nat.le_refl _, Nat.le_refl _⟩ (r_ci fun r' M' p' => ?_) nox
    obtain ⟨rfl, p'⟩ := p'
    have p' := Eq.symm (show _ = _ from p')
    subst p'
    exact kk
theorem r_X0_held {a b n : Nat} {o : Int32} (hw : rwP M (8 + Int32.toNatClampNeg o) (rT o) a b n) (ho : bd o 0 3) (d : decode (gc G) pc = .ok (.invokevirtual 7, 3)) (hown : (gy G).cls = "NoFartherThanAThrow") (hcat : (st.map fun v => v.category).sum ≤ 8) (hF : 1 ≤ gF G) (hO : 20 ≤ gO G) (kk : Wx G bc bs M (pc + 3) ls (.ref b :: st)) : Wx G bc bs M pc ls (.ref a :: st) := by
  rcases so4 ho with rfl | rfl | rfl | rfl
  · have hw' : rwP M 8 1 a b n := hw
    refine r_o1 (bc' := bc) (bs' := bs) (ct_X8_held  hw') (by rw [hown]; exact k_X0_7_8) d hw'.1 hcat ⟨hF, hO⟩ ⟨Nat.le_refl _, Nat.le_refl _⟩ (r_cr fun r' M' p' => ?_) nox
    obtain ⟨rfl, p'⟩ := p'
    have p' := Eq.symm (show _ = _ from p')
    subst p'
    exact kk
  · have hw' : rwP M 9 2 a b n := hw
    refine r_o1 (bc' := bc) (bs' := bs) (ct_X9_held  hw') (by rw [hown]; exact k_X0_7_9) d hw'.1 hcat ⟨hF, hO⟩ ⟨Nat.le_refl _, Nat.le_refl _⟩ (r_cr fun r' M' p' => ?_) nox
    obtain ⟨rfl, p'⟩ := p'
    have p' := Eq.symm (show _ = _ from p')
    subst p'
    exact kk
  · have hw' : rwP M 10 0 a b n := hw
    refine r_o1 (bc' := bc) (bs' := bs) (ct_X10_held  hw') (by rw [hown]; exact k_X0_7_10) d hw'.1 hcat ⟨hF, hO⟩ ⟨Nat.le_refl _, Nat.le_refl _⟩ (r_cr fun r' M' p' => ?_) nox
    obtain ⟨rfl, p'⟩ := p'
    have p' := Eq.symm (show _ = _ from p')
    subst p'
    exact kk
  · have hw' : rwP M 11 4 a b n := hw
    refine r_o1 (bc' := bc) (bs' := bs) (ct_X11_held  hw') (by rw [hown]; exact k_X0_7_11) d hw'.1 hcat ⟨hF, hO⟩ ⟨Nat.le_refl _, Nat.le_refl _⟩ (r_cr fun r' M' p' => ?_) nox
    obtain ⟨rfl, p'⟩ := p'
    have p' := Eq.symm (show _ = _ from p')
    subst p'
    exact kk
theorem r_X0_get {a b n : Nat} {o : Int32} (x1 : Int32) (hw : rwP M (8 + Int32.toNatClampNeg o) (rT o) a b n) (ho : bd o 0 3) (hin : vp_in x1 n) (d : decode (gc G) pc = .ok (.invokevirtual 189, 3)) (hown : (gy G).cls = "NoFartherThanAThrow") (hcat : (st.map fun v => v.category).sum ≤ 8) (hF : 1 ≤ gF G) (hO : 21 ≤ gO G) (kk : Wx G bc bs M (pc + 3) ls (.long (elM M o b (Int32.toNatClampNeg x1)) :: st)) : Wx G bc bs M pc ls (.int x1 :: .ref a :: st) := by
  rcases so4 ho with rfl | rfl | rfl | rfl
  · have hw' : rwP M 8 1 a b n := hw
    refine r_o2 (bc' := bc) (bs' := bs) (ct_X8_get x1 hw' hin) (by rw [hown]; exact k_X0_189_8) d hw'.1 hcat ⟨hF, hO⟩ ⟨Nat.le_refl _, Nat.le_refl _⟩ (r_cl fun r' M' p' => ?_) nox
    obtain ⟨rfl, p'⟩ := p'
    have p' := Eq.symm (show _ = _ from p')
    subst p'
    exact kk
  · have hw' : rwP M 9 2 a b n := hw
    refine r_o2 (bc' := bc) (bs' := bs) (ct_X9_get x1 hw' hin) (by rw [hown]; exact k_X0_189_9) d hw'.1 hcat ⟨hF, hO⟩ ⟨Nat.le_refl _, Nat.le_refl _⟩ (r_cl fun r' M' p' => ?_) nox
    obtain ⟨rfl, p'⟩ := p'
    have p' := Eq.symm (show _ = _ from p')
    subst p'
    exact kk
  · have hw' : rwP M 10 0 a b n := hw
    refine r_o2 (bc' := bc) (bs' := bs) (ct_X10_get x1 hw' hin) (by rw [hown]; exact k_X0_189_10) d hw'.1 hcat ⟨hF, hO⟩ ⟨Nat.le_refl _, Nat.le_refl _⟩ (r_cl fun r' M' p' => ?_) nox
    obtain ⟨rfl, p'⟩ := p'
    have p' := Eq.symm (show _ = _ from p')
    subst p'
    exact kk
  · have hw' : rwP M 11 4 a b n := hw
    refine r_o2 (bc' := bc) (bs' := bs) (ct_X11_get x1 hw' hin) (by rw [hown]; exact k_X0_189_11) d hw'.1 hcat ⟨hF, hO⟩ ⟨Nat.le_refl _, Nat.le_refl _⟩ (r_cl fun r' M' p' => ?_) nox
    obtain ⟨rfl, p'⟩ := p'
    have p' := Eq.symm (show _ = _ from p')
    subst p'
    exact kk
theorem r_X0_getX {a b n : Nat} {o : Int32} (x1 : Int32) (hw : rwP M (8 + Int32.toNatClampNeg o) (rT o) a b n) (ho : bd o 0 3) (hin : ¬ vp_in x1 n) (d : decode (gc G) pc = .ok (.invokevirtual 189, 3)) (hown : (gy G).cls = "NoFartherThanAThrow") (hcat : (st.map fun v => v.category).sum ≤ 8) (hF : 9 ≤ gF G) (hO : 10271 ≤ gO G) (h1c : 3 ≤ bc) (h2c : 222 ≤ bs) (kk : ∀ N q, M.1 ≤ N → Tx G (bc - 3) (bs - 222) (grow M N) pc ls q exA) : Wx G bc bs M pc ls (.int x1 :: .ref a :: st) := by
  rcases so4 ho with rfl | rfl | rfl | rfl
  · have hw' : rwP M 8 1 a b n := hw
    refine r_o2 (bc' := bc - 3) (bs' := bs - 222) (ct_X8_getX x1 hw' hin) (by rw [hown]; exact k_X0_189_8) d hw'.1 hcat ⟨hF, hO⟩ ⟨by show bc - 3 + 3 ≤ bc; omega, by show bs - 222 + 222 ≤ bs; omega⟩ (r_cl fun r' M' p' => ?_) (fun q E M' h9 => ?_)
    · exact p'.elim
    · obtain ⟨rfl, N, hN, rfl⟩ := h9
      exact kk N q hN
  · have hw' : rwP M 9 2 a b n := hw
    refine r_o2 (bc' := bc - 3) (bs' := bs - 222) (ct_X9_getX x1 hw' hin) (by rw [hown]; exact k_X0_189_9) d hw'.1 hcat ⟨hF, hO⟩ ⟨by show bc - 3 + 3 ≤ bc; omega, by show bs - 222 + 222 ≤ bs; omega⟩ (r_cl fun r' M' p' => ?_) (fun q E M' h9 => ?_)
    · exact p'.elim
    · obtain ⟨rfl, N, hN, rfl⟩ := h9
      exact kk N q hN
  · have hw' : rwP M 10 0 a b n := hw
    refine r_o2 (bc' := bc - 3) (bs' := bs - 222) (ct_X10_getX x1 hw' hin) (by rw [hown]; exact k_X0_189_10) d hw'.1 hcat ⟨hF, hO⟩ ⟨by show bc - 3 + 3 ≤ bc; omega, by show bs - 222 + 222 ≤ bs; omega⟩ (r_cl fun r' M' p' => ?_) (fun q E M' h9 => ?_)
    · exact p'.elim
    · obtain ⟨rfl, N, hN, rfl⟩ := h9
      exact kk N q hN
  · have hw' : rwP M 11 4 a b n := hw
    refine r_o2 (bc' := bc - 3) (bs' := bs - 222) (ct_X11_getX x1 hw' hin) (by rw [hown]; exact k_X0_189_11) d hw'.1 hcat ⟨hF, hO⟩ ⟨by show bc - 3 + 3 ≤ bc; omega, by show bs - 222 + 222 ≤ bs; omega⟩ (r_cl fun r' M' p' => ?_) (fun q E M' h9 => ?_)
    · exact p'.elim
    · obtain ⟨rfl, N, hN, rfl⟩ := h9
      exact kk N q hN
theorem r_X0_asInt {a b n : Nat} {o : Int32} (x1 : Int32) (hw : rwP M (8 + Int32.toNatClampNeg o) (rT o) a b n) (ho : bd o 0 3) (hin : vp_in x1 n) (d : decode (gc G) pc = .ok (.invokevirtual 215, 3)) (hown : (gy G).cls = "NoFartherThanAThrow") (hcat : (st.map fun v => v.category).sum ≤ 8) (hF : 2 ≤ gF G) (hO : 42 ≤ gO G) (kk : Wx G bc bs M (pc + 3) ls (.int (elM M o b (Int32.toNatClampNeg x1)).toInt32 :: st)) : Wx G bc bs M pc ls (.int x1 :: .ref a :: st) := by
  rcases so4 ho with rfl | rfl | rfl | rfl
  · have hw' : rwP M 8 1 a b n := hw
    refine r_o2 (bc' := bc) (bs' := bs) (ct_X7_asInt_8 x1 hw' hin) (by rw [hown]; exact k_X0_215_8) d hw'.1 hcat ⟨hF, hO⟩ ⟨Nat.le_refl _, Nat.le_refl _⟩ (r_ci fun r' M' p' => ?_) nox
    obtain ⟨rfl, p'⟩ := p'
    have p' := Eq.symm (show _ = _ from p')
    subst p'
    exact kk
  · have hw' : rwP M 9 2 a b n := hw
    refine r_o2 (bc' := bc) (bs' := bs) (ct_X7_asInt_9 x1 hw' hin) (by rw [hown]; exact k_X0_215_9) d hw'.1 hcat ⟨hF, hO⟩ ⟨Nat.le_refl _, Nat.le_refl _⟩ (r_ci fun r' M' p' => ?_) nox
    obtain ⟨rfl, p'⟩ := p'
    have p' := Eq.symm (show _ = _ from p')
    subst p'
    exact kk
  · have hw' : rwP M 10 0 a b n := hw
    refine r_o2 (bc' := bc) (bs' := bs) (ct_X7_asInt_10 x1 hw' hin) (by rw [hown]; exact k_X0_215_10) d hw'.1 hcat ⟨hF, hO⟩ ⟨Nat.le_refl _, Nat.le_refl _⟩ (r_ci fun r' M' p' => ?_) nox
    obtain ⟨rfl, p'⟩ := p'
    have p' := Eq.symm (show _ = _ from p')
    subst p'
    exact kk
  · have hw' : rwP M 11 4 a b n := hw
    refine r_o2 (bc' := bc) (bs' := bs) (ct_X7_asInt_11 x1 hw' hin) (by rw [hown]; exact k_X0_215_11) d hw'.1 hcat ⟨hF, hO⟩ ⟨Nat.le_refl _, Nat.le_refl _⟩ (r_ci fun r' M' p' => ?_) nox
    obtain ⟨rfl, p'⟩ := p'
    have p' := Eq.symm (show _ = _ from p')
    subst p'
    exact kk
theorem r_X19_asInt {a b n : Nat} {o : Int32} (x1 : Int32) (hw : rwP M (8 + Int32.toNatClampNeg o) (rT o) a b n) (ho : bd o 0 3) (hin : vp_in x1 n) (d : decode (gc G) pc = .ok (.invokevirtual 33, 3)) (hown : (gy G).cls = "NoFartherThanAThrow$Reader") (hcat : (st.map fun v => v.category).sum ≤ 8) (hF : 2 ≤ gF G) (hO : 42 ≤ gO G) (kk : Wx G bc bs M (pc + 3) ls (.int (elM M o b (Int32.toNatClampNeg x1)).toInt32 :: st)) : Wx G bc bs M pc ls (.int x1 :: .ref a :: st) := by
  rcases so4 ho with rfl | rfl | rfl | rfl
  · have hw' : rwP M 8 1 a b n := hw
    refine r_o2 (bc' := bc) (bs' := bs) (ct_X7_asInt_8 x1 hw' hin) (by rw [hown]; exact k_X19_33_8) d hw'.1 hcat ⟨hF, hO⟩ ⟨Nat.le_refl _, Nat.le_refl _⟩ (r_ci fun r' M' p' => ?_) nox
    obtain ⟨rfl, p'⟩ := p'
    have p' := Eq.symm (show _ = _ from p')
    subst p'
    exact kk
  · have hw' : rwP M 9 2 a b n := hw
    refine r_o2 (bc' := bc) (bs' := bs) (ct_X7_asInt_9 x1 hw' hin) (by rw [hown]; exact k_X19_33_9) d hw'.1 hcat ⟨hF, hO⟩ ⟨Nat.le_refl _, Nat.le_refl _⟩ (r_ci fun r' M' p' => ?_) nox
    obtain ⟨rfl, p'⟩ := p'
    have p' := Eq.symm (show _ = _ from p')
    subst p'
    exact kk
  · have hw' : rwP M 10 0 a b n := hw
    refine r_o2 (bc' := bc) (bs' := bs) (ct_X7_asInt_10 x1 hw' hin) (by rw [hown]; exact k_X19_33_10) d hw'.1 hcat ⟨hF, hO⟩ ⟨Nat.le_refl _, Nat.le_refl _⟩ (r_ci fun r' M' p' => ?_) nox
    obtain ⟨rfl, p'⟩ := p'
    have p' := Eq.symm (show _ = _ from p')
    subst p'
    exact kk
  · have hw' : rwP M 11 4 a b n := hw
    refine r_o2 (bc' := bc) (bs' := bs) (ct_X7_asInt_11 x1 hw' hin) (by rw [hown]; exact k_X19_33_11) d hw'.1 hcat ⟨hF, hO⟩ ⟨Nat.le_refl _, Nat.le_refl _⟩ (r_ci fun r' M' p' => ?_) nox
    obtain ⟨rfl, p'⟩ := p'
    have p' := Eq.symm (show _ = _ from p')
    subst p'
    exact kk
theorem r_X0_put {a b n : Nat} {o : Int32} (x1 : Int32) (x2 : Int64) (hw : rwP M (8 + Int32.toNatClampNeg o) (rT o) a b n) (ho : bd o 0 3) (hin : vp_in x1 n) (d : decode (gc G) pc = .ok (.invokevirtual 180, 3)) (hown : (gy G).cls = "NoFartherThanAThrow") (hcat : (st.map fun v => v.category).sum ≤ 8) (hF : 1 ≤ gF G) (hO : 23 ≤ gO G) (kk : Wx G bc bs (puM M o b (Int32.toNatClampNeg x1) x2) (pc + 3) ls (st)) : Wx G bc bs M pc ls (.long x2 :: .int x1 :: .ref a :: st) := by
  rcases so4 ho with rfl | rfl | rfl | rfl
  · have hw' : rwP M 8 1 a b n := hw
    refine r_o3 (bc' := bc) (bs' := bs) (ct_X8_put x1 x2 hw' hin) (by rw [hown]; exact k_X0_180_8) d hw'.1 hcat ⟨hF, hO⟩ ⟨Nat.le_refl _, Nat.le_refl _⟩ (r_cv fun M' p' => ?_) nox
    have p' := Eq.symm (show _ = _ from p')
    subst p'
    rw [n8b]
    exact kk
  · have hw' : rwP M 9 2 a b n := hw
    refine r_o3 (bc' := bc) (bs' := bs) (ct_X9_put x1 x2 hw' hin) (by rw [hown]; exact k_X0_180_9) d hw'.1 hcat ⟨hF, hO⟩ ⟨Nat.le_refl _, Nat.le_refl _⟩ (r_cv fun M' p' => ?_) nox
    have p' := Eq.symm (show _ = _ from p')
    subst p'
    rw [n16s]
    exact kk
  · have hw' : rwP M 10 0 a b n := hw
    refine r_o3 (bc' := bc) (bs' := bs) (ct_X10_put x1 x2 hw' hin) (by rw [hown]; exact k_X0_180_10) d hw'.1 hcat ⟨hF, hO⟩ ⟨Nat.le_refl _, Nat.le_refl _⟩ (r_cv fun M' p' => ?_) nox
    have p' := Eq.symm (show _ = _ from p')
    subst p'
    exact kk
  · have hw' : rwP M 11 4 a b n := hw
    refine r_o3 (bc' := bc) (bs' := bs) (ct_X11_put x1 x2 hw' hin) (by rw [hown]; exact k_X0_180_11) d hw'.1 hcat ⟨hF, hO⟩ ⟨Nat.le_refl _, Nat.le_refl _⟩ (r_cv fun M' p' => ?_) nox
    have p' := Eq.symm (show _ = _ from p')
    subst p'
    exact kk
theorem r_X0_putX {a b n : Nat} {o : Int32} (x1 : Int32) (x2 : Int64) (hw : rwP M (8 + Int32.toNatClampNeg o) (rT o) a b n) (ho : bd o 0 3) (hin : ¬ vp_in x1 n) (d : decode (gc G) pc = .ok (.invokevirtual 180, 3)) (hown : (gy G).cls = "NoFartherThanAThrow") (hcat : (st.map fun v => v.category).sum ≤ 8) (hF : 9 ≤ gF G) (hO : 10273 ≤ gO G) (h1c : 3 ≤ bc) (h2c : 222 ≤ bs) (kk : ∀ N q, M.1 ≤ N → Tx G (bc - 3) (bs - 222) (grow M N) pc ls q exA) : Wx G bc bs M pc ls (.long x2 :: .int x1 :: .ref a :: st) := by
  rcases so4 ho with rfl | rfl | rfl | rfl
  · have hw' : rwP M 8 1 a b n := hw
    refine r_o3 (bc' := bc - 3) (bs' := bs - 222) (ct_X8_putX x1 x2 hw' hin) (by rw [hown]; exact k_X0_180_8) d hw'.1 hcat ⟨hF, hO⟩ ⟨by show bc - 3 + 3 ≤ bc; omega, by show bs - 222 + 222 ≤ bs; omega⟩ (r_cv fun M' p' => ?_) (fun q E M' h9 => ?_)
    · exact p'.elim
    · obtain ⟨rfl, N, hN, rfl⟩ := h9
      exact kk N q hN
  · have hw' : rwP M 9 2 a b n := hw
    refine r_o3 (bc' := bc - 3) (bs' := bs - 222) (ct_X9_putX x1 x2 hw' hin) (by rw [hown]; exact k_X0_180_9) d hw'.1 hcat ⟨hF, hO⟩ ⟨by show bc - 3 + 3 ≤ bc; omega, by show bs - 222 + 222 ≤ bs; omega⟩ (r_cv fun M' p' => ?_) (fun q E M' h9 => ?_)
    · exact p'.elim
    · obtain ⟨rfl, N, hN, rfl⟩ := h9
      exact kk N q hN
  · have hw' : rwP M 10 0 a b n := hw
    refine r_o3 (bc' := bc - 3) (bs' := bs - 222) (ct_X10_putX x1 x2 hw' hin) (by rw [hown]; exact k_X0_180_10) d hw'.1 hcat ⟨hF, hO⟩ ⟨by show bc - 3 + 3 ≤ bc; omega, by show bs - 222 + 222 ≤ bs; omega⟩ (r_cv fun M' p' => ?_) (fun q E M' h9 => ?_)
    · exact p'.elim
    · obtain ⟨rfl, N, hN, rfl⟩ := h9
      exact kk N q hN
  · have hw' : rwP M 11 4 a b n := hw
    refine r_o3 (bc' := bc - 3) (bs' := bs - 222) (ct_X11_putX x1 x2 hw' hin) (by rw [hown]; exact k_X0_180_11) d hw'.1 hcat ⟨hF, hO⟩ ⟨by show bc - 3 + 3 ≤ bc; omega, by show bs - 222 + 222 ≤ bs; omega⟩ (r_cv fun M' p' => ?_) (fun q E M' h9 => ?_)
    · exact p'.elim
    · obtain ⟨rfl, N, hN, rfl⟩ := h9
      exact kk N q hN
end
/-- a row of class c over an array of type t and length n, both new -/
def rowM (M : PM) (c t n : Nat) : PM := sR (nw (nw M (1, c) 0) (2, t) n) M.1 0 (some (M.1 + 1))
theorem rowM_fr {M : PM} {c t n : Nat} : frP noP M (rowM M c t n) := frP.rf.nw.nw.sR fun h => absurd h (Nat.lt_irrefl _)
theorem rowM_rw {M : PM} {c t n : Nat} (h : n ≤ 160) : rwP (rowM M c t n) c t M.1 (M.1 + 1) n := by
  have e : M.1 ≠ M.1 + 1 := by omega
  refine ⟨?_, ?_, ?_, ?_, h⟩
  · show va_up (va_up M.2.1 M.1 (1, c)) (M.1 + 1) (2, t) M.1 = (1, c)
    rw [va_up_ne _ _ e, va_up_self]
  · exact sR_at
  · exact va_up_self _ _ _
  · exact va_up_self _ _ _
theorem rowM_el {M : PM} {c t n : Nat} {o : Int32} (i : Nat) : elM (rowM M c t n) o (M.1 + 1) i = 0 := by
  unfold elM
  have e1 : mL (rowM M c t n) (M.1 + 1) = fun _ => 0 := va_up_self _ _ _
  have e2 : mI (rowM M c t n) (M.1 + 1) = fun _ => 0 := va_up_self _ _ _
  rw [e1, e2]
  split <;> rfl
theorem XO.newrow {M Z : PM} {xo wa mo s c t n : Nat} {S : ST} (h : XO M xo wa mo Z S) (hH : OkH S.1) (hs : s < 8) {o z : Int32} (ho : c = 8 + Int32.toNatClampNeg o) (ht : t = rT o) (hz : z = nI n) (hn : n ≤ 160) : XO (sR (rowM M c t n) (xo + (27 + s)) 0 (some M.1)) xo wa mo Z (up2 (up2 (up2 S.1 22 s 1) 23 s o) 24 s z, fun j => if 160 * s ≤ j ∧ j < 160 * s + 160 then 0 else S.2 j) := by
  subst ho; subst ht
  have h1 := h.grown (rowM_fr (M := M) (c := 8 + Int32.toNatClampNeg o) (t := rT o) (n := n))
  have hw := rowM_rw (M := M) (c := 8 + Int32.toNatClampNeg o) (t := rT o) hn
  have x0 := h.1.1
  have m0 := h.2.1
  have w1 := h.2.2.1.2.2.1.1
  have e22 : ∀ {s' : Nat}, s' ≠ s → ∀ k, (up2 (up2 (up2 S.1 22 s 1) 23 s o) 24 s z) k s' = S.1 k s' := fun hne k => by
    rw [up2_ap, up2_ap, up2_ap]
    simp only [hne, if_false, ite_self]
  refine (XQ.shl (s := s) (v := some M.1) (Q' := shR (sR (rowM M (8 + Int32.toNatClampNeg o) (rT o) n) (xo + (27 + s)) 0 (some M.1)) (up2 (up2 (up2 S.1 22 s 1) 23 s o) 24 s z, fun j => if 160 * s ≤ j ∧ j < 160 * s + 160 then 0 else S.2 j) wa mo) h1.q hs (fun k hk => by show up2 (up2 (up2 S.1 22 s 1) 23 s o) 24 s z k = _; rw [up2_ne (by omega), up2_ne (by omega), up2_ne (by omega)]) ?_ ?_ ?_ ?_).o
  · refine Or.inr (Or.inr ⟨?_, M.1, n, rfl, ⟨m0.2, Nat.le_refl _⟩, ?_, ?_, fun i hi => ?_⟩)
    · show up2 (up2 (up2 S.1 22 s 1) 23 s o) 24 s z 22 s = 1
      simp [up2_ap]
    · rw [show (up2 (up2 (up2 S.1 22 s 1) 23 s o) 24 s z, fun j => if 160 * s ≤ j ∧ j < 160 * s + 160 then (0 : Int64) else S.2 j).1 23 s = o by simp [up2_ap]]
      exact hw.fr (P := fun a => a = xo + (27 + s)) (frP.rf.sR fun _ => rfl) (by show M.1 < M.1 + 1 + 1; omega) (by show M.1 + 1 < M.1 + 1 + 1; omega) (by omega)
    · show up2 (up2 (up2 S.1 22 s 1) 23 s o) 24 s z 24 s = nI n
      simp [up2_ap, hz]
    · show elM (rowM M (8 + Int32.toNatClampNeg o) (rT o) n) _ (M.1 + 1) i = if 160 * s ≤ 160 * s + i ∧ 160 * s + i < 160 * s + 160 then 0 else S.2 (160 * s + i)
      rw [rowM_el, if_pos ⟨by omega, by omega⟩]
  · intro s' o' hs' hne ho' hq
    refine hq.fr (P := fun a => a = xo + (27 + s)) (frP.rf.sR fun _ => rfl) (by show wa + 1 < M.1 + 1 + 1; omega) (fun hp => h.2.2.1.2.1.out2 m0.1 (o := 27 + s) (Or.inr ⟨by omega, by omega⟩) (hp ▸ inW_o (by decide))) (fun rb n' c t hb hm _ => ⟨by omega, by omega⟩) (fun k _ _ => e22 hne k) (fun i hi => ?_)
    show (if 160 * s ≤ 160 * s' + i ∧ 160 * s' + i < 160 * s + 160 then 0 else S.2 (160 * s' + i)) = _
    rw [if_neg (by omega)]
  · intro s' ra hs' hne hr hv
    rw [((rowM_fr (M := M)).2 (xo + (27 + s')) (by omega)).2.2 id |>.2.2] at hr
    have := h.slt hH hs' hr
    cases hv
    omega
  · intro s' hs' hne h9
    rw [← e22 hne 22]
    exact h9
theorem nr_no {x : Int32} (h : ¬ x < 0 ∧ ¬ 3 < x) (h1 : x.toInt < 0 ∨ 3 < x.toInt) : False := by
  have c0 : (0 : Int32).toInt = 0 := by decide
  have c3 : (3 : Int32).toInt = 3 := by decide
  rw [i_lt, i_lt] at h
  omega
theorem ct_X0_newRow {M : PM} (x1 x2 : Int32) (hs : ¬ x1 < 0 ∧ ¬ 3 < x1) (h0 : ¬ x2 < 0) (h9 : Int32.toNatClampNeg x2 ≤ 160) : Ct (YX0_newRow, (3, 61, 2, 161), qr (fun r M' => r = M.1 ∧ M' = rowM M (8 + Int32.toNatClampNeg x1) (rT x1) (Int32.toNatClampNeg x2)), noX) [.int x1, .int x2] M := by
  refine ct_ofH [some (.int x1), some (.int x2), none] rfl rfl (Nat.le_of_ble_eq_true rfl) rfl rfl ?_
  refine r_iload_n (pc := 0) dX0_newRow_0 rfl ?_
  refine r_sp_0_3 (fun h1 => ?_) (fun h1 => ?_) (fun h1 => ?_) (fun h1 => ?_) (fun h1 => ?_)
  · refine r_swIn (pc := 1) 32 dX0_newRow_1 (by decide) (by decide) rfl rfl ?_
    refine r_new (c := 8) (pc := 32) (RX8, TX8, 1) dX0_newRow_32 rfl q435 q436 q94 dv_8 (Nat.le_of_ble_eq_true rfl) rfl (Nat.le_of_ble_eq_true rfl) ?_
    refine r_dup (pc := 35) dX0_newRow_35 rfl ?_
    refine r_iload_n (pc := 36) dX0_newRow_36 rfl ?_
    refine r_o2 (pc := 37) (bc' := 0) (bs' := 0) (ct_X8_init x2 (nw_K _ _ _) (show ¬ M.1 = M.1 + 1 by omega) h0 rfl h9) k_X0_151_8 dX0_newRow_37 (nw_K _ _ _) (Nat.le_of_ble_eq_true rfl) ⟨Nat.le_of_ble_eq_true rfl, Nat.le_of_ble_eq_true rfl⟩ ⟨Nat.le_of_ble_eq_true rfl, Nat.le_of_ble_eq_true rfl⟩ (r_cv fun M37 p37 => ?_) nox
    have p37 := Eq.symm (show _ = _ from p37)
    subst p37
    refine r_areturn (pc := 40) rfl (Or.inl ⟨_, rfl⟩) (Or.inr ⟨_, rfl⟩) dX0_newRow_40 ⟨_, rfl, ?_⟩
    exact ⟨rfl, by rw [h1]; rfl⟩
  · refine r_swIn (pc := 1) 41 dX0_newRow_1 (by decide) (by decide) rfl rfl ?_
    refine r_new (c := 9) (pc := 41) (RX9, TX9, 1) dX0_newRow_41 rfl q448 q449 q95 dv_9 (Nat.le_of_ble_eq_true rfl) rfl (Nat.le_of_ble_eq_true rfl) ?_
    refine r_dup (pc := 44) dX0_newRow_44 rfl ?_
    refine r_iload_n (pc := 45) dX0_newRow_45 rfl ?_
    refine r_o2 (pc := 46) (bc' := 0) (bs' := 0) (ct_X9_init x2 (nw_K _ _ _) (show ¬ M.1 = M.1 + 1 by omega) h0 rfl h9) k_X0_154_9 dX0_newRow_46 (nw_K _ _ _) (Nat.le_of_ble_eq_true rfl) ⟨Nat.le_of_ble_eq_true rfl, Nat.le_of_ble_eq_true rfl⟩ ⟨Nat.le_of_ble_eq_true rfl, Nat.le_of_ble_eq_true rfl⟩ (r_cv fun M46 p46 => ?_) nox
    have p46 := Eq.symm (show _ = _ from p46)
    subst p46
    refine r_areturn (pc := 49) rfl (Or.inl ⟨_, rfl⟩) (Or.inr ⟨_, rfl⟩) dX0_newRow_49 ⟨_, rfl, ?_⟩
    exact ⟨rfl, by rw [h1]; rfl⟩
  · refine r_swIn (pc := 1) 50 dX0_newRow_1 (by decide) (by decide) rfl rfl ?_
    refine r_new (c := 10) (pc := 50) (RX10, TX10, 1) dX0_newRow_50 rfl q459 q460 q96 dv_10 (Nat.le_of_ble_eq_true rfl) rfl (Nat.le_of_ble_eq_true rfl) ?_
    refine r_dup (pc := 53) dX0_newRow_53 rfl ?_
    refine r_iload_n (pc := 54) dX0_newRow_54 rfl ?_
    refine r_o2 (pc := 55) (bc' := 0) (bs' := 0) (ct_X10_init x2 (nw_K _ _ _) (show ¬ M.1 = M.1 + 1 by omega) h0 rfl h9) k_X0_157_10 dX0_newRow_55 (nw_K _ _ _) (Nat.le_of_ble_eq_true rfl) ⟨Nat.le_of_ble_eq_true rfl, Nat.le_of_ble_eq_true rfl⟩ ⟨Nat.le_of_ble_eq_true rfl, Nat.le_of_ble_eq_true rfl⟩ (r_cv fun M55 p55 => ?_) nox
    have p55 := Eq.symm (show _ = _ from p55)
    subst p55
    refine r_areturn (pc := 58) rfl (Or.inl ⟨_, rfl⟩) (Or.inr ⟨_, rfl⟩) dX0_newRow_58 ⟨_, rfl, ?_⟩
    exact ⟨rfl, by rw [h1]; rfl⟩
  · refine r_swIn (pc := 1) 59 dX0_newRow_1 (by decide) (by decide) rfl rfl ?_
    refine r_new (c := 11) (pc := 59) (RX11, TX11, 1) dX0_newRow_59 rfl q469 q470 q97 dv_11 (Nat.le_of_ble_eq_true rfl) rfl (Nat.le_of_ble_eq_true rfl) ?_
    refine r_dup (pc := 62) dX0_newRow_62 rfl ?_
    refine r_iload_n (pc := 63) dX0_newRow_63 rfl ?_
    refine r_o2 (pc := 64) (bc' := 0) (bs' := 0) (ct_X11_init x2 (nw_K _ _ _) (show ¬ M.1 = M.1 + 1 by omega) h0 rfl h9) k_X0_160_11 dX0_newRow_64 (nw_K _ _ _) (Nat.le_of_ble_eq_true rfl) ⟨Nat.le_of_ble_eq_true rfl, Nat.le_of_ble_eq_true rfl⟩ ⟨Nat.le_of_ble_eq_true rfl, Nat.le_of_ble_eq_true rfl⟩ (r_cv fun M64 p64 => ?_) nox
    have p64 := Eq.symm (show _ = _ from p64)
    subst p64
    refine r_areturn (pc := 67) rfl (Or.inl ⟨_, rfl⟩) (Or.inr ⟨_, rfl⟩) dX0_newRow_67 ⟨_, rfl, ?_⟩
    exact ⟨rfl, by rw [h1]; rfl⟩
  · refine r_swOut (pc := 1) 68 dX0_newRow_1 h1 rfl ?_
    exact (nr_no hs h1).elim
theorem le160 {x : Int32} (h0 : ¬ x < 0) (h : ¬ 160 < x) : Int32.toNatClampNeg x ≤ 160 := by
  have c0 : (0 : Int32).toInt = 0 := by decide
  have c3 : (160 : Int32).toInt = 160 := by decide
  rw [i_lt, c0] at h0
  rw [i_lt, c3] at h
  show x.toInt.toNat ≤ 160
  omega
theorem nI_self {x : Int32} (h0 : ¬ x < 0) : x = nI (Int32.toNatClampNeg x) := by
  obtain ⟨n, hn, rfl⟩ := nI_of h0
  rw [ix_nI hn]
theorem ct_X0_row {M : PM} {xo wa mo : Nat} {Z : PM} {S : ST} (hx : XO M xo wa mo Z S) (x1 x2 x3 : Int32) (hS : OkS S.1) : Ct (YX0_row, (9, 10282, 9, 411), qi (fun r M' => oX xo mo Z (rowS S x1 x2 x3) r M'), noX) [.ref xo, .int x1, .int x2, .int x3] M := by
  refine ct_ofH [some (.ref xo), some (.int x1), some (.int x2), some (.int x3), none] rfl rfl (Nat.le_of_ble_eq_true rfl) rfl rfl ?_
  have hB := hS.1.t
  have hC : ∀ (M9 : PM) (q : Nat) (b : Int32) (o4 : Option Value), mK M9 q = (1, 6) → mI M9 q 6 = b → bd b (-7) (-1) → XO M9 xo wa mo Z S → rowS S x1 x2 x3 = noS S b → Wx (YX0_row, (9, 10282, 9, 411), qi (fun r M' => oX xo mo Z (rowS S x1 x2 x3) r M'), noX) 0 0 M9 64 [some (.ref xo), some (.int x1), some (.int x2), some (.int x3), o4] [.ref q] := by
    intro M9 q b o4 h1 h2 h3 h4 h5
    refine r_astore4 (pc := 64) dX0_row_64 rfl ?_
    refine r_aload_n (pc := 66) dX0_row_66 rfl ?_
    refine r_aload (pc := 67) dX0_row_67 rfl ?_
    refine r_o2 (pc := 69) (bc' := 0) (bs' := 0) (ct_X0_refused h4 h1 h2 h3) k_X0_173_0 dX0_row_69 h4.1.2.1 (Nat.le_of_ble_eq_true rfl) ⟨Nat.le_of_ble_eq_true rfl, Nat.le_of_ble_eq_true rfl⟩ ⟨Nat.le_of_ble_eq_true rfl, Nat.le_of_ble_eq_true rfl⟩ (r_ci fun r69 M69 p69 => ?_) nox
    obtain ⟨rfl, h6⟩ := p69
    refine r_ireturn (pc := 72) rfl dX0_row_72 ⟨_, rfl, ?_⟩
    exact (show oX xo mo Z (rowS S x1 x2 x3) _ _ by rw [h5]; exact ⟨rfl, wa, h6⟩)
  refine r_aload_n (pc := 0) dX0_row_0 rfl ?_
  refine r_iload_n (pc := 1) dX0_row_1 rfl ?_
  refine r_o2 (pc := 2) (bc' := 5) (bs' := 182) (ct_X0_shelf hx x1) k_X0_163_0 dX0_row_2 hx.1.2.1 (Nat.le_of_ble_eq_true rfl) ⟨Nat.le_of_ble_eq_true rfl, Nat.le_of_ble_eq_true rfl⟩ ⟨Nat.le_of_ble_eq_true rfl, Nat.le_of_ble_eq_true rfl⟩ (r_cr fun r2 M2 p2 => ?_) (fun q E M9 h9 => by obtain ⟨hn9, rfl, k9, w9, o9⟩ := h9; exact t_catch [] _ _ _ rfl (fun z hz => absurd hz List.not_mem_nil) rfl (by decide) q305 q389 ((hC M9 q _ _ k9 w9 (by decide) o9 (by unfold rowS; rw [cI_t hn9])).loose (Nat.zero_le _) (Nat.zero_le _)))
  obtain ⟨hy, rfl, p2⟩ := p2
  have p2 := Eq.symm (show _ = _ from p2)
  subst p2
  refine r_astore4 (pc := 5) dX0_row_5 rfl ?_
  refine r_iload_n (pc := 7) dX0_row_7 rfl ?_
  refine r_if_lt (pc := 8) 15 dX0_row_8 rfl (fun h8 => ?_) (fun h8 => ?_)
  · refine r_iconst (pc := 15) (v := 0) dX0_row_15 (by decide) ?_
    refine r_eqi (bI (¬ x3 < 0)) (by first | exact bI_t' h8 | exact bI_f' (fun h => h h8)) ?_
    refine r_bipush (pc := 16) (v := (-4)) dX0_row_16 (by decide) ?_
    refine r_s2 (pc := 18) (bc' := 4) (bs' := 175) (ct_X0_need _ _) k_X0_115 dX0_row_18 (Nat.le_of_ble_eq_true rfl) ⟨Nat.le_of_ble_eq_true rfl, Nat.le_of_ble_eq_true rfl⟩ ⟨Nat.le_of_ble_eq_true rfl, Nat.le_of_ble_eq_true rfl⟩ (r_cv fun M18 p18 => ?_) (fun q E M9 h8 => by have h9 := And.intro (bI_eq0.mp h8.1) (hx.rf h8.2); obtain ⟨hn9, rfl, k9, w9, o9⟩ := h9; exact t_catch [] _ _ _ rfl (fun z hz => absurd hz List.not_mem_nil) rfl (by decide) q305 q389 ((hC M9 q _ _ k9 w9 (by decide) o9 (by unfold rowS; rw [cI_f (fun h => h hy), cI_t (Classical.not_not.mp hn9)])).loose (Nat.zero_le _) (Nat.zero_le _)))
    obtain ⟨h1, p18⟩ := p18
    have p18 := Eq.symm (show _ = _ from p18)
    subst p18
    rw [bI_ne0] at h1
    refine r_iload_n (pc := 21) dX0_row_21 rfl ?_
    refine r_i2l (pc := 22) dX0_row_22 ?_
    refine r_lconst (pc := 23) (v := 0) dX0_row_23 (by decide) ?_
    refine r_ldc2 (pc := 24) dX0_row_24 q414 ?_
    refine r_s3 (pc := 27) (bc' := 4) (bs' := 175) (ct_X0_in x2 0 3 rfl (by decide) (by decide)) k_X0_107 dX0_row_27 (Nat.le_of_ble_eq_true rfl) ⟨Nat.le_of_ble_eq_true rfl, Nat.le_of_ble_eq_true rfl⟩ ⟨Nat.le_of_ble_eq_true rfl, Nat.le_of_ble_eq_true rfl⟩ (r_ci fun r27 M27 p27 => ?_) nox
    obtain ⟨rfl, p27⟩ := p27
    have p27 := Eq.symm (show _ = _ from p27)
    subst p27
    refine r_bipush (pc := 30) (v := (-6)) dX0_row_30 (by decide) ?_
    refine r_s2 (pc := 32) (bc' := 3) (bs' := 168) (ct_X0_need _ _) k_X0_115 dX0_row_32 (Nat.le_of_ble_eq_true rfl) ⟨Nat.le_of_ble_eq_true rfl, Nat.le_of_ble_eq_true rfl⟩ ⟨Nat.le_of_ble_eq_true rfl, Nat.le_of_ble_eq_true rfl⟩ (r_cv fun M32 p32 => ?_) (fun q E M9 h8 => by have h9 := And.intro (bI_eq0.mp h8.1) (hx.rf h8.2); obtain ⟨hn9, rfl, k9, w9, o9⟩ := h9; exact t_catch [] _ _ _ rfl (fun z hz => absurd hz List.not_mem_nil) rfl (by decide) q305 q389 ((hC M9 q _ _ k9 w9 (by decide) o9 (by unfold rowS; rw [cI_f (fun h => h hy), cI_f h1, cI_t (n_in hn9)])).loose (Nat.zero_le _) (Nat.zero_le _)))
    obtain ⟨h2, p32⟩ := p32
    have p32 := Eq.symm (show _ = _ from p32)
    subst p32
    rw [bI_ne0] at h2
    refine r_iload_n (pc := 35) dX0_row_35 rfl ?_
    refine r_sipush (pc := 36) (v := 160) dX0_row_36 (by decide) ?_
    refine r_icmp_gt (pc := 39) 46 dX0_row_39 rfl (fun h39 => ?_) (fun h39 => ?_)
    · refine r_iconst (pc := 46) (v := 0) dX0_row_46 (by decide) ?_
      refine r_eqi (bI (¬ 160 < x3)) (by first | exact bI_t' h39 | exact bI_f' (fun h => h h39)) ?_
      refine r_bipush (pc := 47) (v := (-7)) dX0_row_47 (by decide) ?_
      refine r_s2 (pc := 49) (bc' := 2) (bs' := 161) (ct_X0_need _ _) k_X0_115 dX0_row_49 (Nat.le_of_ble_eq_true rfl) ⟨Nat.le_of_ble_eq_true rfl, Nat.le_of_ble_eq_true rfl⟩ ⟨Nat.le_of_ble_eq_true rfl, Nat.le_of_ble_eq_true rfl⟩ (r_cv fun M49 p49 => ?_) (fun q E M9 h8 => by have h9 := And.intro (bI_eq0.mp h8.1) (hx.rf h8.2); obtain ⟨hn9, rfl, k9, w9, o9⟩ := h9; exact t_catch [] _ _ _ rfl (fun z hz => absurd hz List.not_mem_nil) rfl (by decide) q305 q389 ((hC M9 q _ _ k9 w9 (by decide) o9 (by unfold rowS; rw [cI_f (fun h => h hy), cI_f h1, cI_f (fun h => h.elim h2.1 h2.2), cI_t (Classical.not_not.mp hn9)])).loose (Nat.zero_le _) (Nat.zero_le _)))
      obtain ⟨h3, p49⟩ := p49
      have p49 := Eq.symm (show _ = _ from p49)
      subst p49
      rw [bI_ne0] at h3
      refine r_aload (pc := 52) dX0_row_52 rfl ?_
      refine r_iload_n (pc := 54) dX0_row_54 rfl ?_
      refine r_iload_n (pc := 55) dX0_row_55 rfl ?_
      refine r_s2 (pc := 56) (bc' := 0) (bs' := 0) (ct_X0_newRow x2 x3 h2 h1 (le160 h1 h3)) k_X0_169 dX0_row_56 (Nat.le_of_ble_eq_true rfl) ⟨Nat.le_of_ble_eq_true rfl, Nat.le_of_ble_eq_true rfl⟩ ⟨Nat.le_of_ble_eq_true rfl, Nat.le_of_ble_eq_true rfl⟩ (r_cr fun r56 M56 p56 => ?_) nox
      obtain ⟨rfl, p56⟩ := p56
      have p56 := Eq.symm (show _ = _ from p56)
      subst p56
      refine r_putR (pc := 59) dX0_row_59 fl_X0_143_4 (((rowM_fr (M := M)).2 (xo + (27 + Int32.toNatClampNeg x1)) (by have := hx.1.1; have := vp_in_lt (vp_sh hy); omega)).1.trans (hx.1.2.2.2.2.2.2.2.2.2 _ (vp_in_lt (vp_sh hy))).2) rfl rfl ?_
      refine r_iconst (pc := 62) (v := 1) dX0_row_62 (by decide) ?_
      refine r_ireturn (pc := 63) rfl dX0_row_63 ⟨_, rfl, ?_⟩
      exact (show oX xo mo Z (rowS S x1 x2 x3) _ _ by rw [show rowS S x1 x2 x3 = (1, (up2 (up2 (up2 S.1 22 (Int32.toNatClampNeg x1) 1) 23 (Int32.toNatClampNeg x1) x2) 24 (Int32.toNatClampNeg x1) x3, fun j => if 160 * Int32.toNatClampNeg x1 ≤ j ∧ j < 160 * Int32.toNatClampNeg x1 + 160 then 0 else S.2 j)) by unfold rowS; rw [cI_f (fun h => h hy), cI_f h1, cI_f (fun h => h.elim h2.1 h2.2), cI_f h3]]; exact ⟨rfl, wa, (hx.newrow hS.2.1 (vp_in_lt (vp_sh hy)) rfl rfl (nI_self h1) (le160 h1 h3))⟩)
    · refine r_iconst (pc := 42) (v := 1) dX0_row_42 (by decide) ?_
      refine r_goto (pc := 43) 47 dX0_row_43 rfl ?_
      refine r_eqi (bI (¬ 160 < x3)) (by first | exact bI_t' h39 | exact bI_f' (fun h => h h39)) ?_
      refine r_bipush (pc := 47) (v := (-7)) dX0_row_47 (by decide) ?_
      refine r_s2 (pc := 49) (bc' := 2) (bs' := 161) (ct_X0_need _ _) k_X0_115 dX0_row_49 (Nat.le_of_ble_eq_true rfl) ⟨Nat.le_of_ble_eq_true rfl, Nat.le_of_ble_eq_true rfl⟩ ⟨Nat.le_of_ble_eq_true rfl, Nat.le_of_ble_eq_true rfl⟩ (r_cv fun M49 p49 => ?_) (fun q E M9 h8 => by have h9 := And.intro (bI_eq0.mp h8.1) (hx.rf h8.2); obtain ⟨hn9, rfl, k9, w9, o9⟩ := h9; exact t_catch [] _ _ _ rfl (fun z hz => absurd hz List.not_mem_nil) rfl (by decide) q305 q389 ((hC M9 q _ _ k9 w9 (by decide) o9 (by unfold rowS; rw [cI_f (fun h => h hy), cI_f h1, cI_f (fun h => h.elim h2.1 h2.2), cI_t (Classical.not_not.mp hn9)])).loose (Nat.zero_le _) (Nat.zero_le _)))
      obtain ⟨h3, p49⟩ := p49
      have p49 := Eq.symm (show _ = _ from p49)
      subst p49
      rw [bI_ne0] at h3
      refine r_aload (pc := 52) dX0_row_52 rfl ?_
      refine r_iload_n (pc := 54) dX0_row_54 rfl ?_
      refine r_iload_n (pc := 55) dX0_row_55 rfl ?_
      refine r_s2 (pc := 56) (bc' := 0) (bs' := 0) (ct_X0_newRow x2 x3 h2 h1 (le160 h1 h3)) k_X0_169 dX0_row_56 (Nat.le_of_ble_eq_true rfl) ⟨Nat.le_of_ble_eq_true rfl, Nat.le_of_ble_eq_true rfl⟩ ⟨Nat.le_of_ble_eq_true rfl, Nat.le_of_ble_eq_true rfl⟩ (r_cr fun r56 M56 p56 => ?_) nox
      obtain ⟨rfl, p56⟩ := p56
      have p56 := Eq.symm (show _ = _ from p56)
      subst p56
      refine r_putR (pc := 59) dX0_row_59 fl_X0_143_4 (((rowM_fr (M := M)).2 (xo + (27 + Int32.toNatClampNeg x1)) (by have := hx.1.1; have := vp_in_lt (vp_sh hy); omega)).1.trans (hx.1.2.2.2.2.2.2.2.2.2 _ (vp_in_lt (vp_sh hy))).2) rfl rfl ?_
      refine r_iconst (pc := 62) (v := 1) dX0_row_62 (by decide) ?_
      refine r_ireturn (pc := 63) rfl dX0_row_63 ⟨_, rfl, ?_⟩
      exact (show oX xo mo Z (rowS S x1 x2 x3) _ _ by rw [show rowS S x1 x2 x3 = (1, (up2 (up2 (up2 S.1 22 (Int32.toNatClampNeg x1) 1) 23 (Int32.toNatClampNeg x1) x2) 24 (Int32.toNatClampNeg x1) x3, fun j => if 160 * Int32.toNatClampNeg x1 ≤ j ∧ j < 160 * Int32.toNatClampNeg x1 + 160 then 0 else S.2 j)) by unfold rowS; rw [cI_f (fun h => h hy), cI_f h1, cI_f (fun h => h.elim h2.1 h2.2), cI_f h3]]; exact ⟨rfl, wa, (hx.newrow hS.2.1 (vp_in_lt (vp_sh hy)) rfl rfl (nI_self h1) (le160 h1 h3))⟩)
  · refine r_iconst (pc := 11) (v := 1) dX0_row_11 (by decide) ?_
    refine r_goto (pc := 12) 16 dX0_row_12 rfl ?_
    refine r_eqi (bI (¬ x3 < 0)) (by first | exact bI_t' h8 | exact bI_f' (fun h => h h8)) ?_
    refine r_bipush (pc := 16) (v := (-4)) dX0_row_16 (by decide) ?_
    refine r_s2 (pc := 18) (bc' := 4) (bs' := 175) (ct_X0_need _ _) k_X0_115 dX0_row_18 (Nat.le_of_ble_eq_true rfl) ⟨Nat.le_of_ble_eq_true rfl, Nat.le_of_ble_eq_true rfl⟩ ⟨Nat.le_of_ble_eq_true rfl, Nat.le_of_ble_eq_true rfl⟩ (r_cv fun M18 p18 => ?_) (fun q E M9 h8 => by have h9 := And.intro (bI_eq0.mp h8.1) (hx.rf h8.2); obtain ⟨hn9, rfl, k9, w9, o9⟩ := h9; exact t_catch [] _ _ _ rfl (fun z hz => absurd hz List.not_mem_nil) rfl (by decide) q305 q389 ((hC M9 q _ _ k9 w9 (by decide) o9 (by unfold rowS; rw [cI_f (fun h => h hy), cI_t (Classical.not_not.mp hn9)])).loose (Nat.zero_le _) (Nat.zero_le _)))
    obtain ⟨h1, p18⟩ := p18
    have p18 := Eq.symm (show _ = _ from p18)
    subst p18
    rw [bI_ne0] at h1
    refine r_iload_n (pc := 21) dX0_row_21 rfl ?_
    refine r_i2l (pc := 22) dX0_row_22 ?_
    refine r_lconst (pc := 23) (v := 0) dX0_row_23 (by decide) ?_
    refine r_ldc2 (pc := 24) dX0_row_24 q414 ?_
    refine r_s3 (pc := 27) (bc' := 4) (bs' := 175) (ct_X0_in x2 0 3 rfl (by decide) (by decide)) k_X0_107 dX0_row_27 (Nat.le_of_ble_eq_true rfl) ⟨Nat.le_of_ble_eq_true rfl, Nat.le_of_ble_eq_true rfl⟩ ⟨Nat.le_of_ble_eq_true rfl, Nat.le_of_ble_eq_true rfl⟩ (r_ci fun r27 M27 p27 => ?_) nox
    obtain ⟨rfl, p27⟩ := p27
    have p27 := Eq.symm (show _ = _ from p27)
    subst p27
    refine r_bipush (pc := 30) (v := (-6)) dX0_row_30 (by decide) ?_
    refine r_s2 (pc := 32) (bc' := 3) (bs' := 168) (ct_X0_need _ _) k_X0_115 dX0_row_32 (Nat.le_of_ble_eq_true rfl) ⟨Nat.le_of_ble_eq_true rfl, Nat.le_of_ble_eq_true rfl⟩ ⟨Nat.le_of_ble_eq_true rfl, Nat.le_of_ble_eq_true rfl⟩ (r_cv fun M32 p32 => ?_) (fun q E M9 h8 => by have h9 := And.intro (bI_eq0.mp h8.1) (hx.rf h8.2); obtain ⟨hn9, rfl, k9, w9, o9⟩ := h9; exact t_catch [] _ _ _ rfl (fun z hz => absurd hz List.not_mem_nil) rfl (by decide) q305 q389 ((hC M9 q _ _ k9 w9 (by decide) o9 (by unfold rowS; rw [cI_f (fun h => h hy), cI_f h1, cI_t (n_in hn9)])).loose (Nat.zero_le _) (Nat.zero_le _)))
    obtain ⟨h2, p32⟩ := p32
    have p32 := Eq.symm (show _ = _ from p32)
    subst p32
    rw [bI_ne0] at h2
    refine r_iload_n (pc := 35) dX0_row_35 rfl ?_
    refine r_sipush (pc := 36) (v := 160) dX0_row_36 (by decide) ?_
    refine r_icmp_gt (pc := 39) 46 dX0_row_39 rfl (fun h39 => ?_) (fun h39 => ?_)
    · refine r_iconst (pc := 46) (v := 0) dX0_row_46 (by decide) ?_
      refine r_eqi (bI (¬ 160 < x3)) (by first | exact bI_t' h39 | exact bI_f' (fun h => h h39)) ?_
      refine r_bipush (pc := 47) (v := (-7)) dX0_row_47 (by decide) ?_
      refine r_s2 (pc := 49) (bc' := 2) (bs' := 161) (ct_X0_need _ _) k_X0_115 dX0_row_49 (Nat.le_of_ble_eq_true rfl) ⟨Nat.le_of_ble_eq_true rfl, Nat.le_of_ble_eq_true rfl⟩ ⟨Nat.le_of_ble_eq_true rfl, Nat.le_of_ble_eq_true rfl⟩ (r_cv fun M49 p49 => ?_) (fun q E M9 h8 => by have h9 := And.intro (bI_eq0.mp h8.1) (hx.rf h8.2); obtain ⟨hn9, rfl, k9, w9, o9⟩ := h9; exact t_catch [] _ _ _ rfl (fun z hz => absurd hz List.not_mem_nil) rfl (by decide) q305 q389 ((hC M9 q _ _ k9 w9 (by decide) o9 (by unfold rowS; rw [cI_f (fun h => h hy), cI_f h1, cI_f (fun h => h.elim h2.1 h2.2), cI_t (Classical.not_not.mp hn9)])).loose (Nat.zero_le _) (Nat.zero_le _)))
      obtain ⟨h3, p49⟩ := p49
      have p49 := Eq.symm (show _ = _ from p49)
      subst p49
      rw [bI_ne0] at h3
      refine r_aload (pc := 52) dX0_row_52 rfl ?_
      refine r_iload_n (pc := 54) dX0_row_54 rfl ?_
      refine r_iload_n (pc := 55) dX0_row_55 rfl ?_
      refine r_s2 (pc := 56) (bc' := 0) (bs' := 0) (ct_X0_newRow x2 x3 h2 h1 (le160 h1 h3)) k_X0_169 dX0_row_56 (Nat.le_of_ble_eq_true rfl) ⟨Nat.le_of_ble_eq_true rfl, Nat.le_of_ble_eq_true rfl⟩ ⟨Nat.le_of_ble_eq_true rfl, Nat.le_of_ble_eq_true rfl⟩ (r_cr fun r56 M56 p56 => ?_) nox
      obtain ⟨rfl, p56⟩ := p56
      have p56 := Eq.symm (show _ = _ from p56)
      subst p56
      refine r_putR (pc := 59) dX0_row_59 fl_X0_143_4 (((rowM_fr (M := M)).2 (xo + (27 + Int32.toNatClampNeg x1)) (by have := hx.1.1; have := vp_in_lt (vp_sh hy); omega)).1.trans (hx.1.2.2.2.2.2.2.2.2.2 _ (vp_in_lt (vp_sh hy))).2) rfl rfl ?_
      refine r_iconst (pc := 62) (v := 1) dX0_row_62 (by decide) ?_
      refine r_ireturn (pc := 63) rfl dX0_row_63 ⟨_, rfl, ?_⟩
      exact (show oX xo mo Z (rowS S x1 x2 x3) _ _ by rw [show rowS S x1 x2 x3 = (1, (up2 (up2 (up2 S.1 22 (Int32.toNatClampNeg x1) 1) 23 (Int32.toNatClampNeg x1) x2) 24 (Int32.toNatClampNeg x1) x3, fun j => if 160 * Int32.toNatClampNeg x1 ≤ j ∧ j < 160 * Int32.toNatClampNeg x1 + 160 then 0 else S.2 j)) by unfold rowS; rw [cI_f (fun h => h hy), cI_f h1, cI_f (fun h => h.elim h2.1 h2.2), cI_f h3]]; exact ⟨rfl, wa, (hx.newrow hS.2.1 (vp_in_lt (vp_sh hy)) rfl rfl (nI_self h1) (le160 h1 h3))⟩)
    · refine r_iconst (pc := 42) (v := 1) dX0_row_42 (by decide) ?_
      refine r_goto (pc := 43) 47 dX0_row_43 rfl ?_
      refine r_eqi (bI (¬ 160 < x3)) (by first | exact bI_t' h39 | exact bI_f' (fun h => h h39)) ?_
      refine r_bipush (pc := 47) (v := (-7)) dX0_row_47 (by decide) ?_
      refine r_s2 (pc := 49) (bc' := 2) (bs' := 161) (ct_X0_need _ _) k_X0_115 dX0_row_49 (Nat.le_of_ble_eq_true rfl) ⟨Nat.le_of_ble_eq_true rfl, Nat.le_of_ble_eq_true rfl⟩ ⟨Nat.le_of_ble_eq_true rfl, Nat.le_of_ble_eq_true rfl⟩ (r_cv fun M49 p49 => ?_) (fun q E M9 h8 => by have h9 := And.intro (bI_eq0.mp h8.1) (hx.rf h8.2); obtain ⟨hn9, rfl, k9, w9, o9⟩ := h9; exact t_catch [] _ _ _ rfl (fun z hz => absurd hz List.not_mem_nil) rfl (by decide) q305 q389 ((hC M9 q _ _ k9 w9 (by decide) o9 (by unfold rowS; rw [cI_f (fun h => h hy), cI_f h1, cI_f (fun h => h.elim h2.1 h2.2), cI_t (Classical.not_not.mp hn9)])).loose (Nat.zero_le _) (Nat.zero_le _)))
      obtain ⟨h3, p49⟩ := p49
      have p49 := Eq.symm (show _ = _ from p49)
      subst p49
      rw [bI_ne0] at h3
      refine r_aload (pc := 52) dX0_row_52 rfl ?_
      refine r_iload_n (pc := 54) dX0_row_54 rfl ?_
      refine r_iload_n (pc := 55) dX0_row_55 rfl ?_
      refine r_s2 (pc := 56) (bc' := 0) (bs' := 0) (ct_X0_newRow x2 x3 h2 h1 (le160 h1 h3)) k_X0_169 dX0_row_56 (Nat.le_of_ble_eq_true rfl) ⟨Nat.le_of_ble_eq_true rfl, Nat.le_of_ble_eq_true rfl⟩ ⟨Nat.le_of_ble_eq_true rfl, Nat.le_of_ble_eq_true rfl⟩ (r_cr fun r56 M56 p56 => ?_) nox
      obtain ⟨rfl, p56⟩ := p56
      have p56 := Eq.symm (show _ = _ from p56)
      subst p56
      refine r_putR (pc := 59) dX0_row_59 fl_X0_143_4 (((rowM_fr (M := M)).2 (xo + (27 + Int32.toNatClampNeg x1)) (by have := hx.1.1; have := vp_in_lt (vp_sh hy); omega)).1.trans (hx.1.2.2.2.2.2.2.2.2.2 _ (vp_in_lt (vp_sh hy))).2) rfl rfl ?_
      refine r_iconst (pc := 62) (v := 1) dX0_row_62 (by decide) ?_
      refine r_ireturn (pc := 63) rfl dX0_row_63 ⟨_, rfl, ?_⟩
      exact (show oX xo mo Z (rowS S x1 x2 x3) _ _ by rw [show rowS S x1 x2 x3 = (1, (up2 (up2 (up2 S.1 22 (Int32.toNatClampNeg x1) 1) 23 (Int32.toNatClampNeg x1) x2) 24 (Int32.toNatClampNeg x1) x3, fun j => if 160 * Int32.toNatClampNeg x1 ≤ j ∧ j < 160 * Int32.toNatClampNeg x1 + 160 then 0 else S.2 j)) by unfold rowS; rw [cI_f (fun h => h hy), cI_f h1, cI_f (fun h => h.elim h2.1 h2.2), cI_f h3]]; exact ⟨rfl, wa, (hx.newrow hS.2.1 (vp_in_lt (vp_sh hy)) rfl rfl (nI_self h1) (le160 h1 h3))⟩)
theorem el_pu {M : PM} {o : Int32} (ho : bd o 0 3) {b i : Nat} {v : Int64} (j : Nat) : elM (puM M o b i v) o b j = if j = i then keepC o v else elM M o b j := by
  have u : ∀ x : Int32, mI (sI M b i x) b j = if j = i then x else mI M b j := fun x => by
    show up2 (mI M) b i x b j = _
    rw [up2_self]
    by_cases c : j = i
    · rw [c, va_up_self, if_pos rfl]
    · rw [va_up_ne _ _ c, if_neg c]
  have w : ∀ x : Int64, mL (sL M b i x) b j = if j = i then x else mL M b j := fun x => by
    show up2 (mL M) b i x b j = _
    rw [up2_self]
    by_cases c : j = i
    · rw [c, va_up_self, if_pos rfl]
    · rw [va_up_ne _ _ c, if_neg c]
  rcases so4 ho with rfl | rfl | rfl | rfl
  · show (mI (sI M b i v.toInt32.toInt8.toInt32) b j).toInt64 = if j = i then v.toInt32.toInt8.toInt32.toInt64 else (mI M b j).toInt64
    rw [u]; split <;> rfl
  · show (mI (sI M b i v.toInt32.toInt16.toInt32) b j).toInt64 = if j = i then v.toInt32.toInt16.toInt32.toInt64 else (mI M b j).toInt64
    rw [u]; split <;> rfl
  · show (mI (sI M b i v.toInt32) b j).toInt64 = if j = i then v.toInt32.toInt64 else (mI M b j).toInt64
    rw [u]; split <;> rfl
  · show mL (sL M b i v) b j = if j = i then v else mL M b j
    exact w v
theorem pu_fr {M : PM} {o : Int32} {b i : Nat} {v : Int64} : frP (fun a => a = b) M (puM M o b i v) ∧ mR (puM M o b i v) = mR M := by
  unfold puM
  split
  · exact ⟨frP.rf.sL fun _ => rfl, rfl⟩
  · exact ⟨frP.rf.sI fun _ => rfl, rfl⟩
theorem XO.setel {M Z : PM} {xo wa mo s ra n i : Nat} {S : ST} {v : Int64} (h : XO M xo wa mo Z S) (hH : OkH S.1) (hs : s < 8) (hro : roX M S xo mo s ra n) (hi : i < n) : XO (puM M (S.1 23 s) (ra + 1) i v) xo wa mo Z (S.1, va_up S.2 (160 * s + i) (keepC (S.1 23 s) v)) := by
  obtain ⟨h1, h2, h3, h4, h5, h6⟩ := hro
  have h160 := h4.2.2.2.2
  refine h.els hs h1 h2 h3 h4 h5 pu_fr.1 (fun a _ => by rw [pu_fr.2]) rfl (fun s' j hs' hne hj => va_up_ne _ _ (by omega)) (fun j hj => ?_)
  rw [el_pu ((hH s hs).2.1 h1).1]
  by_cases c : j = i
  · rw [if_pos c, c]; exact (va_up_self _ _ _).symm
  · rw [if_neg c, h6 j hj]; exact (va_up_ne _ _ (by omega)).symm
theorem vp_iff {x : Int32} {n : Nat} (hn : n < 2147483648) : vp_in x n ↔ ¬ (x < 0 ∨ ¬ x < nI n) := by
  have c0 : (0 : Int32).toInt = 0 := by decide
  rw [vp_in_iff, i_lt, i_lt, nI_toInt hn, c0]
  omega
theorem sh_e {P : Prop} {x : Int32} (h : shelfP x) : ¬ (¬ shelfP x ∨ P) ↔ ¬ P := ⟨fun q r => q (Or.inr r), fun q r => r.elim (fun z => z h) q⟩
theorem ct_X0_set {M : PM} {xo wa mo : Nat} {Z : PM} {S : ST} (hx : XO M xo wa mo Z S) (x1 x2 : Int32) (x3 : Int64) (hS : OkS S.1) : Ct (YX0_set, (9, 10282, 12, 1415), qi (fun r M' => oX xo mo Z (setS S x1 x2 x3) r M'), noX) [.ref xo, .int x1, .int x2, .long x3] M := by
  refine ct_ofH [some (.ref xo), some (.int x1), some (.int x2), some (.long x3), none, none, none] rfl rfl (Nat.le_of_ble_eq_true rfl) rfl rfl ?_
  have hB := hS.1.t
  have hC : ∀ (M9 : PM) (q : Nat) (b : Int32) (o5 o6 : Option Value), mK M9 q = (1, 6) → mI M9 q 6 = b → bd b (-7) (-1) → XO M9 xo wa mo Z S → setS S x1 x2 x3 = noS S b → Wx (YX0_set, (9, 10282, 12, 1415), qi (fun r M' => oX xo mo Z (setS S x1 x2 x3) r M'), noX) 0 0 M9 34 [some (.ref xo), some (.int x1), some (.int x2), some (.long x3), none, o5, o6] [.ref q] := by
    intro M9 q b o5 o6 h1 h2 h3 h4 h5
    refine r_astore5 (pc := 34) dX0_set_34 rfl ?_
    refine r_aload_n (pc := 36) dX0_set_36 rfl ?_
    refine r_aload (pc := 37) dX0_set_37 rfl ?_
    refine r_o2 (pc := 39) (bc' := 0) (bs' := 0) (ct_X0_refused h4 h1 h2 h3) k_X0_173_0 dX0_set_39 h4.1.2.1 (Nat.le_of_ble_eq_true rfl) ⟨Nat.le_of_ble_eq_true rfl, Nat.le_of_ble_eq_true rfl⟩ ⟨Nat.le_of_ble_eq_true rfl, Nat.le_of_ble_eq_true rfl⟩ (r_ci fun r39 M39 p39 => ?_) nox
    obtain ⟨rfl, h6⟩ := p39
    refine r_ireturn (pc := 42) rfl dX0_set_42 ⟨_, rfl, ?_⟩
    exact (show oX xo mo Z (setS S x1 x2 x3) _ _ by rw [h5]; exact ⟨rfl, wa, h6⟩)
  refine r_aload_n (pc := 0) dX0_set_0 rfl ?_
  refine r_iload_n (pc := 1) dX0_set_1 rfl ?_
  refine r_o2 (pc := 2) (bc' := 8) (bs' := 1186) (ct_X0_shelf hx x1) k_X0_163_0 dX0_set_2 hx.1.2.1 (Nat.le_of_ble_eq_true rfl) ⟨Nat.le_of_ble_eq_true rfl, Nat.le_of_ble_eq_true rfl⟩ ⟨Nat.le_of_ble_eq_true rfl, Nat.le_of_ble_eq_true rfl⟩ (r_cr fun r2 M2 p2 => ?_) (fun q E M9 h9 => by obtain ⟨hn9, rfl, k9, w9, o9⟩ := h9; exact t_catch [_] _ _ _ rfl (fun z hz => Or.inl (by rw [List.mem_singleton.mp hz]; rfl)) rfl (by decide) q305 q389 ((hC M9 q _ _ _ k9 w9 (by decide) o9 (by unfold setS; rw [cI_t hn9])).loose (Nat.zero_le _) (Nat.zero_le _)))
  obtain ⟨hy, rfl, p2⟩ := p2
  have p2 := Eq.symm (show _ = _ from p2)
  subst p2
  refine r_o1 (pc := 5) (bc' := 4) (bs' := 229) (ct_X4_row hx (vp_in_lt (vp_sh hy)) hS) k_X0_177_4 dX0_set_5 (hx.1.2.2.2.2.2.2.2.2.2 (Int32.toNatClampNeg x1) (vp_in_lt (vp_sh hy))).2 (Nat.le_of_ble_eq_true rfl) ⟨Nat.le_of_ble_eq_true rfl, Nat.le_of_ble_eq_true rfl⟩ ⟨Nat.le_of_ble_eq_true rfl, Nat.le_of_ble_eq_true rfl⟩ (r_cr fun r5 M5 p5 => ?_) (fun q E M9 h9 => by rcases h9 with ⟨hn9, rfl, k9, w9, o9⟩ | ⟨hn9, rfl, k9, w9, o9⟩; exact t_catch [_] _ _ _ rfl (fun z hz => Or.inl (by rw [List.mem_singleton.mp hz]; rfl)) rfl (by decide) q305 q389 ((hC M9 q _ _ _ k9 w9 (by decide) o9 (by unfold setS; rw [cI_f (fun h => h hy), cI_t hn9])).loose (Nat.zero_le _) (Nat.zero_le _)); exact t_catch [_] _ _ _ rfl (fun z hz => Or.inl (by rw [List.mem_singleton.mp hz]; rfl)) rfl (by decide) q305 q389 ((hC M9 q _ _ _ k9 w9 (by decide) o9 (by unfold setS; rw [cI_f (fun h => h hy), cI_f (by rw [hn9]; decide), cI_t hn9])).loose (Nat.zero_le _) (Nat.zero_le _)))
  obtain ⟨⟨n, hro⟩, p5⟩ := p5
  have p5 := Eq.symm (show _ = _ from p5)
  subst p5
  refine r_astore5 (pc := 8) dX0_set_8 rfl ?_
  refine r_aload (pc := 10) dX0_set_10 rfl ?_
  refine r_iload_n (pc := 12) dX0_set_12 rfl ?_
  refine r_lload_n (pc := 13) dX0_set_13 rfl ?_
  by_cases hin : vp_in x2 n
  · refine r_X0_put (pc := 14) x2 x3 hro.2.2.2.1 ((hS.2.1 _ (vp_in_lt (vp_sh hy))).2.1 hro.1).1 hin dX0_set_14 rfl (Nat.le_of_ble_eq_true rfl) (Nat.le_of_ble_eq_true rfl) (Nat.le_of_ble_eq_true rfl) ?_
    refine r_goto (pc := 17) 32 dX0_set_17 rfl ?_
    refine r_iconst (pc := 32) (v := 1) dX0_set_32 (by decide) ?_
    refine r_ireturn (pc := 33) rfl dX0_set_33 ⟨_, rfl, ?_⟩
    exact (show oX xo mo Z (setS S x1 x2 x3) _ _ by rw [show setS S x1 x2 x3 = (1, (S.1, va_up S.2 (160 * Int32.toNatClampNeg x1 + Int32.toNatClampNeg x2) (keepC (S.1 23 (Int32.toNatClampNeg x1)) x3))) by unfold setS; rw [cI_f (fun h => h hy), cI_f (by rw [hro.1]; decide), cI_f (by rw [hro.1]; decide), cI_f (by rw [hro.2.2.2.2.1]; exact (vp_iff (by have := hro.2.2.2.1.2.2.2.2; omega)).mp hin)]]; exact ⟨rfl, wa, (hx.setel hS.2.1 (vp_in_lt (vp_sh hy)) hro (vp_in_lt hin))⟩)
  · refine r_X0_putX (pc := 14) x2 x3 hro.2.2.2.1 ((hS.2.1 _ (vp_in_lt (vp_sh hy))).2.1 hro.1).1 hin dX0_set_14 rfl (Nat.le_of_ble_eq_true rfl) (Nat.le_of_ble_eq_true rfl) (Nat.le_of_ble_eq_true rfl) (Nat.le_of_ble_eq_true rfl) (Nat.le_of_ble_eq_true rfl) (fun N q hN => ?_)
    have hx2 := hx.grown (frP.rf.grow hN)
    refine t_catch [] _ _ _ rfl (fun z hz => absurd hz List.not_mem_nil) rfl (by decide) q310 q363 ?_
    show Wx _ 1 7 (grow M N) 20 _ _
    refine r_astore6 (pc := 20) dX0_set_20 rfl ?_
    refine r_new (c := 6) (pc := 22) (RX6, TX6, 7) dX0_set_22 rfl q305 q388 q91 dv_6 (Nat.le_of_ble_eq_true rfl) rfl (Nat.le_of_ble_eq_true rfl) ?_
    refine r_dup (pc := 25) dX0_set_25 rfl ?_
    refine r_bipush (pc := 26) (v := (-5)) dX0_set_26 (by decide) ?_
    refine r_o2 (pc := 28) (bc' := 0) (bs' := 0) (ct_X6_init (-5) (nw_K _ _ _) (nw_R _ _ _)) k_X0_23_6 dX0_set_28 (nw_K _ _ _) (Nat.le_of_ble_eq_true rfl) ⟨Nat.le_of_ble_eq_true rfl, Nat.le_of_ble_eq_true rfl⟩ ⟨Nat.le_of_ble_eq_true rfl, Nat.le_of_ble_eq_true rfl⟩ (r_cv fun M28 p28 => ?_) nox
    have p28 := Eq.symm (show _ = _ from p28)
    subst p28
    refine r_athrow (pc := 31) (c := 6) dX0_set_31 (nw_K (grow M N) (1, 6) 0) rfl ?_
    obtain ⟨-, k9, w9, o9⟩ := hx2.rf (why := -5) ⟨rfl, rfl, rfl⟩
    exact t_catch [_] _ _ _ rfl (fun z hz => Or.inl (by rw [List.mem_singleton.mp hz]; rfl)) rfl (by decide) q305 q389 ((hC _ _ _ _ _ k9 w9 (by decide) o9 (by unfold setS; rw [cI_f (fun h => h hy), cI_f (by rw [hro.1]; decide), cI_f (by rw [hro.1]; decide), cI_t (by rw [hro.2.2.2.2.1]; exact Classical.byContradiction fun h => hin ((vp_iff (by have := hro.2.2.2.1.2.2.2.2; omega)).mpr h))])).loose (Nat.zero_le _) (Nat.zero_le _))
theorem elm_in {x z : Int32} {n : Nat} (hz : z = nI n) (hn : n < 2147483648) (h : vp_in x n) : ¬ x < 0 ∧ x < z := by
  have h1 := (vp_iff hn).mp h
  rw [hz]
  exact ⟨fun q => h1 (Or.inl q), Classical.byContradiction fun q => h1 (Or.inr q)⟩
theorem elm_out {x z : Int32} {n : Nat} (hz : z = nI n) (hn : n < 2147483648) (h : ¬ x < 0 ∧ x < z) : vp_in x n := (vp_iff hn).mpr fun q => q.elim h.1 fun r => r (hz ▸ h.2)
theorem ct_X0_element {M : PM} {xo wa mo : Nat} {Z : PM} {S : ST} (hx : XO M xo wa mo Z S) (x1 x2 : Int32) (hS : OkS S.1) : Ct (YX0_element, (9, 10282, 11, 1408), ql (fun r M' => r = elementS S x1 x2 ∧ ∃ wa, XO M' xo wa mo Z S), noX) [.ref xo, .int x1, .int x2] M := by
  refine ct_ofH [some (.ref xo), some (.int x1), some (.int x2), none] rfl rfl (Nat.le_of_ble_eq_true rfl) rfl rfl ?_
  have hC : ∀ (M9 : PM) (q : Nat) (o3 : Option Value), XO M9 xo wa mo Z S → elementS S x1 x2 = 0 → Wx (YX0_element, (9, 10282, 11, 1408), ql (fun r M' => r = elementS S x1 x2 ∧ ∃ wa, XO M' xo wa mo Z S), noX) 0 0 M9 13 [some (.ref xo), some (.int x1), some (.int x2), o3] [.ref q] := by
    intro M9 q o3 h1 h2
    refine r_astore3 (pc := 13) dX0_element_13 rfl ?_
    refine r_lconst (pc := 14) (v := 0) dX0_element_14 (by decide) ?_
    refine r_lreturn (pc := 15) rfl dX0_element_15 ⟨_, rfl, ?_⟩
    exact ⟨h2.symm, wa, h1⟩
  have hD : ∀ (M9 : PM) (q : Nat) (o3 : Option Value), XO M9 xo wa mo Z S → elementS S x1 x2 = 0 → Wx (YX0_element, (9, 10282, 11, 1408), ql (fun r M' => r = elementS S x1 x2 ∧ ∃ wa, XO M' xo wa mo Z S), noX) 0 0 M9 16 [some (.ref xo), some (.int x1), some (.int x2), o3] [.ref q] := by
    intro M9 q o3 h1 h2
    refine r_astore3 (pc := 16) dX0_element_16 rfl ?_
    refine r_lconst (pc := 17) (v := 0) dX0_element_17 (by decide) ?_
    refine r_lreturn (pc := 18) rfl dX0_element_18 ⟨_, rfl, ?_⟩
    exact ⟨h2.symm, wa, h1⟩
  refine r_aload_n (pc := 0) dX0_element_0 rfl ?_
  refine r_iload_n (pc := 1) dX0_element_1 rfl ?_
  refine r_o2 (pc := 2) (bc' := 7) (bs' := 1179) (ct_X0_shelf hx x1) k_X0_163_0 dX0_element_2 hx.1.2.1 (Nat.le_of_ble_eq_true rfl) ⟨Nat.le_of_ble_eq_true rfl, Nat.le_of_ble_eq_true rfl⟩ ⟨Nat.le_of_ble_eq_true rfl, Nat.le_of_ble_eq_true rfl⟩ (r_cr fun r2 M2 p2 => ?_) (fun q E M9 h9 => by obtain ⟨hn9, rfl, k9, w9, o9⟩ := h9; exact t_catch [] _ _ _ rfl (fun z hz => absurd hz List.not_mem_nil) rfl (by decide) q305 q389 ((hC M9 q _ o9 (by unfold elementS; rw [cI_f (fun h => hn9 h.1)])).loose (Nat.zero_le _) (Nat.zero_le _)))
  obtain ⟨hy, rfl, p2⟩ := p2
  have p2 := Eq.symm (show _ = _ from p2)
  subst p2
  refine r_o1 (pc := 5) (bc' := 3) (bs' := 222) (ct_X4_row hx (vp_in_lt (vp_sh hy)) hS) k_X0_177_4 dX0_element_5 (hx.1.2.2.2.2.2.2.2.2.2 (Int32.toNatClampNeg x1) (vp_in_lt (vp_sh hy))).2 (Nat.le_of_ble_eq_true rfl) ⟨Nat.le_of_ble_eq_true rfl, Nat.le_of_ble_eq_true rfl⟩ ⟨Nat.le_of_ble_eq_true rfl, Nat.le_of_ble_eq_true rfl⟩ (r_cr fun r5 M5 p5 => ?_) (fun q E M9 h9 => by rcases h9 with ⟨hn9, rfl, k9, w9, o9⟩ | ⟨hn9, rfl, k9, w9, o9⟩; exact t_catch [] _ _ _ rfl (fun z hz => absurd hz List.not_mem_nil) rfl (by decide) q305 q389 ((hC M9 q _ o9 (by unfold elementS; rw [cI_f (fun h => absurd (hn9.symm.trans h.2.1) (by decide))])).loose (Nat.zero_le _) (Nat.zero_le _)); exact t_catch [] _ _ _ rfl (fun z hz => absurd hz List.not_mem_nil) rfl (by decide) q305 q389 ((hC M9 q _ o9 (by unfold elementS; rw [cI_f (fun h => absurd (hn9.symm.trans h.2.1) (by decide))])).loose (Nat.zero_le _) (Nat.zero_le _)))
  obtain ⟨⟨n, hro⟩, p5⟩ := p5
  have p5 := Eq.symm (show _ = _ from p5)
  subst p5
  refine r_iload_n (pc := 8) dX0_element_8 rfl ?_
  by_cases hin : vp_in x2 n
  · refine r_X0_get (pc := 9) x2 hro.2.2.2.1 ((hS.2.1 _ (vp_in_lt (vp_sh hy))).2.1 hro.1).1 hin dX0_element_9 rfl (Nat.le_of_ble_eq_true rfl) (Nat.le_of_ble_eq_true rfl) (Nat.le_of_ble_eq_true rfl) ?_
    refine r_lreturn (pc := 12) rfl dX0_element_12 ⟨_, rfl, ?_⟩
    exact ⟨by unfold elementS; rw [cI_t ⟨hy, hro.1, elm_in hro.2.2.2.2.1 (by have := hro.2.2.2.1.2.2.2.2; omega) hin⟩, hro.2.2.2.2.2 _ (vp_in_lt hin)], wa, hx⟩
  · refine r_X0_getX (pc := 9) x2 hro.2.2.2.1 ((hS.2.1 _ (vp_in_lt (vp_sh hy))).2.1 hro.1).1 hin dX0_element_9 rfl (Nat.le_of_ble_eq_true rfl) (Nat.le_of_ble_eq_true rfl) (Nat.le_of_ble_eq_true rfl) (Nat.le_of_ble_eq_true rfl) (Nat.le_of_ble_eq_true rfl) (fun N q hN => ?_)
    exact t_catch [_] _ _ _ rfl (fun z hz => Or.inr ⟨by rw [List.mem_singleton.mp hz]; decide, _, by rw [List.mem_singleton.mp hz]; exact q305, nc_ai_rf⟩) rfl (by decide) q310 q363 ((hD _ q _ (hx.grown (frP.rf.grow hN)) (by unfold elementS; rw [cI_f (fun h => hin (elm_out hro.2.2.2.2.1 (by have := hro.2.2.2.1.2.2.2.2; omega) h.2.2))])).loose (Nat.zero_le _) (Nat.zero_le _))
theorem XO.shnone {M Z : PM} {xo wa mo s : Nat} {S : ST} {v : Int32} (h : XO M xo wa mo Z S) (hs : s < 8) : XO (sR M (xo + (27 + s)) 0 none) xo wa mo Z (up2 (up2 S.1 22 s 0) 25 s v, S.2) := by
  have x0 := h.1.1
  have m0 := h.2.1
  have w1 := h.2.2.1.2.2.1.1
  have e22 : ∀ {s' : Nat}, s' ≠ s → ∀ k, (up2 (up2 S.1 22 s 0) 25 s v) k s' = S.1 k s' := fun hne k => by
    rw [up2_ap, up2_ap]
    simp only [hne, if_false, ite_self]
  refine (XQ.shl (s := s) (v := none) (Q' := shR (sR M (xo + (27 + s)) 0 none) (up2 (up2 S.1 22 s 0) 25 s v, S.2) wa mo) h.q hs (fun k hk => by show up2 (up2 S.1 22 s 0) 25 s v k = _; rw [up2_ne (by omega), up2_ne (by omega)]) ?_ ?_ ?_ ?_).o
  · exact Or.inl ⟨by show up2 (up2 S.1 22 s 0) 25 s v 22 s = 0; simp [up2_ap], rfl⟩
  · intro s' o' hs' hne ho' hq
    exact hq.fr (P := fun a => a = xo + (27 + s)) (frP.rf.sR fun _ => rfl) (by omega) (fun hp => h.2.2.1.2.1.out2 m0.1 (o := 27 + s) (Or.inr ⟨by omega, by omega⟩) (hp ▸ inW_o (by decide))) (fun rb n' c t hb hm _ => ⟨by omega, by omega⟩) (fun k _ _ => e22 hne k) (fun i hi => rfl)
  · intro s' ra hs' hne hr hv
    cases hv
  · intro s' hs' hne h9
    rw [← e22 hne 22]
    exact h9
theorem XO.shth {M Z : PM} {xo wa mo s ta : Nat} {S : ST} {v : Int32} (h : XO M xo wa mo Z S) (hH : OkH S.1) (hs : s < 8) (hr : mR M (wa + 1) (Int32.toNatClampNeg v) = some ta) (hT : TH M S.1 (Int32.toNatClampNeg v) ta) : XO (sR M (xo + (27 + s)) 0 (some ta)) xo wa mo Z (up2 (up2 S.1 22 s 2) 25 s v, S.2) := by
  have x0 := h.1.1
  have m0 := h.2.1
  have w1 := h.2.2.1.2.2.1.1
  have e22 : ∀ {s' : Nat}, s' ≠ s → ∀ k, (up2 (up2 S.1 22 s 2) 25 s v) k s' = S.1 k s' := fun hne k => by
    rw [up2_ap, up2_ap]
    simp only [hne, if_false, ite_self]
  have e2 : up2 (up2 S.1 22 s 2) 25 s v 22 s = 2 := by simp [up2_ap]
  have e5 : up2 (up2 S.1 22 s 2) 25 s v 25 s = v := by simp [up2_ap]
  have hwn : ¬ wa + 1 = xo + (27 + s) := fun hp => h.2.2.1.2.1.out2 m0.1 (o := 27 + s) (Or.inr ⟨by omega, by omega⟩) (hp ▸ inW_o (by decide))
  refine (XQ.shl (s := s) (v := some ta) (Q' := shR (sR M (xo + (27 + s)) 0 (some ta)) (up2 (up2 S.1 22 s 2) 25 s v, S.2) wa mo) h.q hs (fun k hk => by show up2 (up2 S.1 22 s 2) 25 s v k = _; rw [up2_ne (by omega), up2_ne (by omega)]) ?_ ?_ ?_ ?_).o
  · refine Or.inr (Or.inl ⟨e2, ta, rfl, ?_⟩)
    rw [show ((up2 (up2 S.1 22 s 2) 25 s v, S.2) : ST).1 25 s = v from e5]
    show up2 (mR M) (xo + (27 + s)) 0 (some ta) (wa + 1) _ = _
    rw [up2_ne hwn]
    exact hr
  · intro s' o' hs' hne ho' hq
    exact hq.fr (P := fun a => a = xo + (27 + s)) (frP.rf.sR fun _ => rfl) (by omega) hwn (fun rb n' c t hb hm _ => ⟨by omega, by omega⟩) (fun k _ _ => e22 hne k) (fun i hi => rfl)
  · intro s' ra hs' hne hr' hv
    refine ⟨by rw [show ((up2 (up2 S.1 22 s 2) 25 s v, S.2) : ST).1 22 s = 2 from e2]; decide, fun h1 => ?_⟩
    rw [show ((up2 (up2 S.1 22 s 2) 25 s v, S.2) : ST).1 22 s' = S.1 22 s' from e22 hne 22] at h1
    obtain ⟨rb, n, g1, g2, g3, g4, -⟩ := h.ro hs' h1
    cases g2.symm.trans hr'
    cases hv
    have k1 := g4.1
    rw [hT.2.1] at k1
    have k2 := (Prod.mk.inj k1).2
    have := so_le hH hs' h1
    omega
  · intro s' hs' hne h9
    rw [← e22 hne 22]
    exact h9
theorem ct_X0_show {M : PM} {xo wa mo : Nat} {Z : PM} {S : ST} (hx : XO M xo wa mo Z S) (x1 x2 : Int32) (hS : OkS S.1) : Ct (YX0_show, (9, 10282, 5, 236), qi (fun r M' => oX xo mo Z (showS S x1 x2) r M'), noX) [.ref xo, .int x1, .int x2] M := by
  refine ct_ofH [some (.ref xo), some (.int x1), some (.int x2), none] rfl rfl (Nat.le_of_ble_eq_true rfl) rfl rfl ?_
  have hB := hS.1.t
  have hC : ∀ (M9 : PM) (q : Nat) (b : Int32) (o3 : Option Value), mK M9 q = (1, 6) → mI M9 q 6 = b → bd b (-7) (-1) → XO M9 xo wa mo Z S → showS S x1 x2 = noS S b → Wx (YX0_show, (9, 10282, 5, 236), qi (fun r M' => oX xo mo Z (showS S x1 x2) r M'), noX) 0 0 M9 29 [some (.ref xo), some (.int x1), some (.int x2), o3] [.ref q] := by
    intro M9 q b o3 h1 h2 h3 h4 h5
    refine r_astore3 (pc := 29) dX0_show_29 rfl ?_
    refine r_aload_n (pc := 30) dX0_show_30 rfl ?_
    refine r_aload_n (pc := 31) dX0_show_31 rfl ?_
    refine r_o2 (pc := 32) (bc' := 0) (bs' := 0) (ct_X0_refused h4 h1 h2 h3) k_X0_173_0 dX0_show_32 h4.1.2.1 (Nat.le_of_ble_eq_true rfl) ⟨Nat.le_of_ble_eq_true rfl, Nat.le_of_ble_eq_true rfl⟩ ⟨Nat.le_of_ble_eq_true rfl, Nat.le_of_ble_eq_true rfl⟩ (r_ci fun r32 M32 p32 => ?_) nox
    obtain ⟨rfl, h6⟩ := p32
    refine r_ireturn (pc := 35) rfl dX0_show_35 ⟨_, rfl, ?_⟩
    exact (show oX xo mo Z (showS S x1 x2) _ _ by rw [h5]; exact ⟨rfl, wa, h6⟩)
  refine r_aload_n (pc := 0) dX0_show_0 rfl ?_
  refine r_iload_n (pc := 1) dX0_show_1 rfl ?_
  refine r_o2 (pc := 2) (bc' := 1) (bs' := 7) (ct_X0_shelf hx x1) k_X0_163_0 dX0_show_2 hx.1.2.1 (Nat.le_of_ble_eq_true rfl) ⟨Nat.le_of_ble_eq_true rfl, Nat.le_of_ble_eq_true rfl⟩ ⟨Nat.le_of_ble_eq_true rfl, Nat.le_of_ble_eq_true rfl⟩ (r_cr fun r2 M2 p2 => ?_) (fun q E M9 h9 => by obtain ⟨hn9, rfl, k9, w9, o9⟩ := h9; exact t_catch [] _ _ _ rfl (fun z hz => absurd hz List.not_mem_nil) rfl (by decide) q305 q389 ((hC M9 q _ _ k9 w9 (by decide) o9 (by unfold showS; rw [cI_t (Or.inl hn9)])).loose (Nat.zero_le _) (Nat.zero_le _)))
  obtain ⟨hy, rfl, p2⟩ := p2
  have p2 := Eq.symm (show _ = _ from p2)
  subst p2
  refine r_astore3 (pc := 5) dX0_show_5 rfl ?_
  refine r_iload_n (pc := 6) dX0_show_6 rfl ?_
  refine r_iconst (pc := 7) (v := (-1)) dX0_show_7 (by decide) ?_
  refine r_icmp_ne (pc := 8) 18 dX0_show_8 rfl (fun h8 => ?_) (fun h8 => ?_)
  · refine r_aload_n (pc := 18) dX0_show_18 rfl ?_
    refine r_aload_n (pc := 19) dX0_show_19 rfl ?_
    refine r_iload_n (pc := 20) dX0_show_20 rfl ?_
    refine r_o2 (pc := 21) (bc' := 0) (bs' := 0) (ct_X0_thingAt hx x2 hB) k_X0_193_0 dX0_show_21 hx.1.2.1 (Nat.le_of_ble_eq_true rfl) ⟨Nat.le_of_ble_eq_true rfl, Nat.le_of_ble_eq_true rfl⟩ ⟨Nat.le_of_ble_eq_true rfl, Nat.le_of_ble_eq_true rfl⟩ (r_cr fun r21 M21 p21 => ?_) (fun q E M9 h9 => by obtain ⟨hn9, rfl, k9, w9, o9⟩ := h9; exact t_catch [_] _ _ _ rfl (fun z hz => Or.inl (by rw [List.mem_singleton.mp hz]; rfl)) rfl (by decide) q305 q389 ((hC M9 q _ _ k9 w9 (by decide) o9 (by unfold showS; rw [cI_t (Or.inr ⟨h8, hn9⟩)])).loose (Nat.zero_le _) (Nat.zero_le _)))
    obtain ⟨hz, ⟨hr, hT⟩, p21⟩ := p21
    have p21 := Eq.symm (show _ = _ from p21)
    subst p21
    refine r_putR (pc := 24) dX0_show_24 fl_X0_143_4 (hx.1.2.2.2.2.2.2.2.2.2 (Int32.toNatClampNeg x1) (vp_in_lt (vp_sh hy))).2 rfl rfl ?_
    refine r_iconst (pc := 27) (v := 1) dX0_show_27 (by decide) ?_
    refine r_ireturn (pc := 28) rfl dX0_show_28 ⟨_, rfl, ?_⟩
    exact (show oX xo mo Z (showS S x1 x2) _ _ by rw [show showS S x1 x2 = (1, (up2 (up2 S.1 22 (Int32.toNatClampNeg x1) 2) 25 (Int32.toNatClampNeg x1) x2, S.2)) by unfold showS; rw [cI_f (fun h => h.elim (fun q => q hy) (fun q => q.2 hz)), cI_f h8]]; exact ⟨rfl, wa, (hx.shth hS.2.1 (vp_in_lt (vp_sh hy)) hr hT)⟩)
  · refine r_aload_n (pc := 11) dX0_show_11 rfl ?_
    refine r_null (pc := 12) dX0_show_12 ?_
    refine r_putN (pc := 13) dX0_show_13 fl_X0_143_4 (hx.1.2.2.2.2.2.2.2.2.2 (Int32.toNatClampNeg x1) (vp_in_lt (vp_sh hy))).2 rfl rfl ?_
    refine r_iconst (pc := 16) (v := 0) dX0_show_16 (by decide) ?_
    refine r_ireturn (pc := 17) rfl dX0_show_17 ⟨_, rfl, ?_⟩
    exact (show oX xo mo Z (showS S x1 x2) _ _ by rw [show showS S x1 x2 = (0, (up2 (up2 S.1 22 (Int32.toNatClampNeg x1) 0) 25 (Int32.toNatClampNeg x1) x2, S.2)) by unfold showS; rw [cI_f (fun h => h.elim (fun q => q hy) (fun q => q.1 h8)), cI_t h8]]; exact ⟨rfl, wa, (hx.shnone (vp_in_lt (vp_sh hy)))⟩)
theorem ct_X0_says {M : PM} {xo wa mo : Nat} {Z : PM} {S : ST} (hx : XO M xo wa mo Z S) (x1 x2 : Int32) (hS : OkS S.1) : Ct (YX0_says, (9, 10283, 9, 1193), qi (fun r M' => oX xo mo Z (saysS S x1 x2) r M'), noX) [.ref xo, .int x1, .int x2] M := by
  refine ct_ofH [some (.ref xo), some (.int x1), some (.int x2), none] rfl rfl (Nat.le_of_ble_eq_true rfl) rfl rfl ?_
  have hB := hS.1.t
  have hC : ∀ (M9 : PM) (q : Nat) (b : Int32) (o3 : Option Value), mK M9 q = (1, 6) → mI M9 q 6 = b → bd b (-7) (-1) → XO M9 xo wa mo Z S → saysS S x1 x2 = noS S b → Wx (YX0_says, (9, 10283, 9, 1193), qi (fun r M' => oX xo mo Z (saysS S x1 x2) r M'), noX) 0 0 M9 29 [some (.ref xo), some (.int x1), some (.int x2), o3] [.ref q] := by
    intro M9 q b o3 h1 h2 h3 h4 h5
    refine r_astore3 (pc := 29) dX0_says_29 rfl ?_
    refine r_aload_n (pc := 30) dX0_says_30 rfl ?_
    refine r_aload_n (pc := 31) dX0_says_31 rfl ?_
    refine r_o2 (pc := 32) (bc' := 0) (bs' := 0) (ct_X0_refused h4 h1 h2 h3) k_X0_173_0 dX0_says_32 h4.1.2.1 (Nat.le_of_ble_eq_true rfl) ⟨Nat.le_of_ble_eq_true rfl, Nat.le_of_ble_eq_true rfl⟩ ⟨Nat.le_of_ble_eq_true rfl, Nat.le_of_ble_eq_true rfl⟩ (r_ci fun r32 M32 p32 => ?_) nox
    obtain ⟨rfl, h6⟩ := p32
    refine r_ireturn (pc := 35) rfl dX0_says_35 ⟨_, rfl, ?_⟩
    exact (show oX xo mo Z (saysS S x1 x2) _ _ by rw [h5]; exact ⟨rfl, wa, h6⟩)
  refine r_aload_n (pc := 0) dX0_says_0 rfl ?_
  refine r_iload_n (pc := 1) dX0_says_1 rfl ?_
  refine r_o2 (pc := 2) (bc' := 5) (bs' := 964) (ct_X0_shelf hx x1) k_X0_163_0 dX0_says_2 hx.1.2.1 (Nat.le_of_ble_eq_true rfl) ⟨Nat.le_of_ble_eq_true rfl, Nat.le_of_ble_eq_true rfl⟩ ⟨Nat.le_of_ble_eq_true rfl, Nat.le_of_ble_eq_true rfl⟩ (r_cr fun r2 M2 p2 => ?_) (fun q E M9 h9 => by obtain ⟨hn9, rfl, k9, w9, o9⟩ := h9; exact t_catch [] _ _ _ rfl (fun z hz => absurd hz List.not_mem_nil) rfl (by decide) q305 q389 ((hC M9 q _ _ k9 w9 (by decide) o9 (by unfold saysS; rw [cI_t (Or.inl hn9)])).loose (Nat.zero_le _) (Nat.zero_le _)))
  obtain ⟨hy, rfl, p2⟩ := p2
  have p2 := Eq.symm (show _ = _ from p2)
  subst p2
  refine r_astore3 (pc := 5) dX0_says_5 rfl ?_
  refine r_iload_n (pc := 6) dX0_says_6 rfl ?_
  refine r_i2l (pc := 7) dX0_says_7 ?_
  refine r_lconst (pc := 8) (v := 0) dX0_says_8 (by decide) ?_
  refine r_ldc2 (pc := 9) dX0_says_9 q609 ?_
  refine r_s3 (pc := 12) (bc' := 5) (bs' := 964) (ct_X0_in x2 0 6 rfl (by decide) (by decide)) k_X0_107 dX0_says_12 (Nat.le_of_ble_eq_true rfl) ⟨Nat.le_of_ble_eq_true rfl, Nat.le_of_ble_eq_true rfl⟩ ⟨Nat.le_of_ble_eq_true rfl, Nat.le_of_ble_eq_true rfl⟩ (r_ci fun r12 M12 p12 => ?_) nox
  obtain ⟨rfl, p12⟩ := p12
  have p12 := Eq.symm (show _ = _ from p12)
  subst p12
  refine r_iconst (pc := 15) (v := (-1)) dX0_says_15 (by decide) ?_
  refine r_s2 (pc := 16) (bc' := 4) (bs' := 957) (ct_X0_need _ _) k_X0_115 dX0_says_16 (Nat.le_of_ble_eq_true rfl) ⟨Nat.le_of_ble_eq_true rfl, Nat.le_of_ble_eq_true rfl⟩ ⟨Nat.le_of_ble_eq_true rfl, Nat.le_of_ble_eq_true rfl⟩ (r_cv fun M16 p16 => ?_) (fun q E M9 h8 => by have h9 := And.intro (bI_eq0.mp h8.1) (hx.rf h8.2); obtain ⟨hn9, rfl, k9, w9, o9⟩ := h9; exact t_catch [] _ _ _ rfl (fun z hz => absurd hz List.not_mem_nil) rfl (by decide) q305 q389 ((hC M9 q _ _ k9 w9 (by decide) o9 (by unfold saysS; rw [cI_t (Or.inr (n_in hn9))])).loose (Nat.zero_le _) (Nat.zero_le _)))
  obtain ⟨hz, p16⟩ := p16
  have p16 := Eq.symm (show _ = _ from p16)
  subst p16
  rw [bI_ne0] at hz
  refine r_aload_n (pc := 19) dX0_says_19 rfl ?_
  refine r_iload_n (pc := 20) dX0_says_20 rfl ?_
  refine r_aload_n (pc := 21) dX0_says_21 rfl ?_
  refine r_getR (pc := 22) dX0_says_22 fl_X0_90_0 hx.1.2.1 (fun _ _ => rfl) hx.2.2.1.1 ?_
  refine r_o3 (pc := 25) (bc' := 0) (bs' := 0) (ct_X4_says hx hy x2 hz hS) k_X0_199_4 dX0_says_25 (hx.1.2.2.2.2.2.2.2.2.2 (Int32.toNatClampNeg x1) (vp_in_lt (vp_sh hy))).2 (Nat.le_of_ble_eq_true rfl) ⟨Nat.le_of_ble_eq_true rfl, Nat.le_of_ble_eq_true rfl⟩ ⟨Nat.le_of_ble_eq_true rfl, Nat.le_of_ble_eq_true rfl⟩ (r_ci fun r25 M25 p25 => ?_) (fun q E M9 h9 => by obtain ⟨b9, e9, d9, rfl, k9, w9, o9⟩ := h9; exact t_catch [] _ _ _ rfl (fun z hz => absurd hz List.not_mem_nil) rfl (by decide) q305 q389 ((hC M9 q b9 _ k9 w9 d9 o9 e9).loose (Nat.zero_le _) (Nat.zero_le _)))
  obtain ⟨e5, p25⟩ := p25
  have p25 := Eq.symm (show _ = _ from p25)
  subst p25
  refine r_ireturn (pc := 28) rfl dX0_says_28 ⟨_, rfl, ?_⟩
  exact (show oX xo mo Z (saysS S x1 x2) _ _ by rw [e5]; exact ⟨rfl, wa, hx⟩)
theorem ct_X0_holds {M : PM} {xo wa mo : Nat} {Z : PM} {S : ST} (hx : XO M xo wa mo Z S) (x1 : Int32) (hS : OkS S.1) : Ct (YX0_holds, (2, 60, 0, 0), qi (fun r M' => oX xo mo Z (holdsS S x1, S) r M'), noX) [.ref xo, .int x1] M := by
  refine ct_of [some (.ref xo), some (.int x1), none] rfl rfl rfl (Nat.le_of_ble_eq_true rfl) rfl rfl ?_
  have hB := hS.1.t
  refine r_iload_n (pc := 0) dX0_holds_0 rfl ?_
  refine r_if_lt (pc := 1) 22 dX0_holds_1 rfl (fun h1 => ?_) (fun h1 => ?_)
  · refine r_iconst (pc := 22) (v := (-1)) dX0_holds_22 (by decide) ?_
    refine r_ireturn (pc := 23) rfl dX0_holds_23 ⟨_, rfl, ?_⟩
    exact (show oX xo mo Z (holdsS S x1, S) _ _ by unfold holdsS; rw [cI_t (Or.inl (fun h => by first | exact h.1 h1 | exact h7 h.2))]; exact ⟨rfl, wa, hx⟩)
  · refine r_iload_n (pc := 4) dX0_holds_4 rfl ?_
    refine r_bipush (pc := 5) (v := 8) dX0_holds_5 (by decide) ?_
    refine r_icmp_ge (pc := 7) 22 dX0_holds_7 rfl (fun h7 => ?_) (fun h7 => ?_)
    · refine r_iconst (pc := 22) (v := (-1)) dX0_holds_22 (by decide) ?_
      refine r_ireturn (pc := 23) rfl dX0_holds_23 ⟨_, rfl, ?_⟩
      exact (show oX xo mo Z (holdsS S x1, S) _ _ by unfold holdsS; rw [cI_t (Or.inl (fun h => by first | exact h.1 h1 | exact h7 h.2))]; exact ⟨rfl, wa, hx⟩)
    · have hy : shelfP x1 := ⟨h1, h7⟩
      rcases (hS.2.1 _ (vp_in_lt (vp_sh hy))).1 with h22 | h22 | h22
      · refine r_aload_n (pc := 10) dX0_holds_10 rfl ?_
        refine r_getR (pc := 11) dX0_holds_11 fl_X0_59_0 hx.1.2.1 (fun _ _ => rfl) hx.1.2.2.1.1 ?_
        refine r_iload_n (pc := 14) dX0_holds_14 rfl ?_
        refine r_aaldR (pc := 15) dX0_holds_15 hx.1.2.2.2.1.1 rfl hx.1.2.2.2.1.2 (vp_sh hy) (hx.1.2.2.2.2.2.2.2.2.2 _ (vp_in_lt (vp_sh hy))).1 ?_
        refine r_getN (pc := 16) dX0_holds_16 fl_X0_143_4 (hx.1.2.2.2.2.2.2.2.2.2 (Int32.toNatClampNeg x1) (vp_in_lt (vp_sh hy))).2 (fun _ _ => rfl) (hx.sno (vp_in_lt (vp_sh hy)) h22) ?_
        refine r_ifnonnullN (pc := 19) dX0_holds_19 ?_
        refine r_iconst (pc := 22) (v := (-1)) dX0_holds_22 (by decide) ?_
        refine r_ireturn (pc := 23) rfl dX0_holds_23 ⟨_, rfl, ?_⟩
        exact (show oX xo mo Z (holdsS S x1, S) _ _ by unfold holdsS; rw [cI_t (Or.inr h22)]; exact ⟨rfl, wa, hx⟩)
      · obtain ⟨ra, n, hro⟩ := hx.ro (vp_in_lt (vp_sh hy)) h22
        refine r_aload_n (pc := 10) dX0_holds_10 rfl ?_
        refine r_getR (pc := 11) dX0_holds_11 fl_X0_59_0 hx.1.2.1 (fun _ _ => rfl) hx.1.2.2.1.1 ?_
        refine r_iload_n (pc := 14) dX0_holds_14 rfl ?_
        refine r_aaldR (pc := 15) dX0_holds_15 hx.1.2.2.2.1.1 rfl hx.1.2.2.2.1.2 (vp_sh hy) (hx.1.2.2.2.2.2.2.2.2.2 _ (vp_in_lt (vp_sh hy))).1 ?_
        refine r_getR (pc := 16) dX0_holds_16 fl_X0_143_4 (hx.1.2.2.2.2.2.2.2.2.2 (Int32.toNatClampNeg x1) (vp_in_lt (vp_sh hy))).2 (fun _ _ => rfl) hro.2.1 ?_
        refine r_ifnonnull (pc := 19) 24 dX0_holds_19 rfl ?_
        refine r_aload_n (pc := 24) dX0_holds_24 rfl ?_
        refine r_getR (pc := 25) dX0_holds_25 fl_X0_59_0 hx.1.2.1 (fun _ _ => rfl) hx.1.2.2.1.1 ?_
        refine r_iload_n (pc := 28) dX0_holds_28 rfl ?_
        refine r_aaldR (pc := 29) dX0_holds_29 hx.1.2.2.2.1.1 rfl hx.1.2.2.2.1.2 (vp_sh hy) (hx.1.2.2.2.2.2.2.2.2.2 _ (vp_in_lt (vp_sh hy))).1 ?_
        refine r_getR (pc := 30) dX0_holds_30 fl_X0_143_4 (hx.1.2.2.2.2.2.2.2.2.2 (Int32.toNatClampNeg x1) (vp_in_lt (vp_sh hy))).2 (fun _ _ => rfl) hro.2.1 ?_
        refine r_astore2 (pc := 33) dX0_holds_33 rfl ?_
        refine r_aload_n (pc := 34) dX0_holds_34 rfl ?_
        refine r_instRw (pc := 35) (so_le hS.2.1 (vp_in_lt (vp_sh hy)) h22) dX0_holds_35 hro.2.2.2.1.1 q603 ?_
        refine r_if_eq (pc := 38) 51 dX0_holds_38 rfl (fun _ => ?_) (fun hno => absurd hno (by decide))
        refine r_bipush (pc := 51) (v := 100) dX0_holds_51 (by decide) ?_
        refine r_aload_n (pc := 53) dX0_holds_53 rfl ?_
        refine r_castRw (pc := 54) (so_le hS.2.1 (vp_in_lt (vp_sh hy)) h22) dX0_holds_54 hro.2.2.2.1.1 q604 ?_
        refine r_X0_sort (pc := 57) hro.2.2.2.1 ((hS.2.1 _ (vp_in_lt (vp_sh hy))).2.1 hro.1).1 dX0_holds_57 rfl (Nat.le_of_ble_eq_true rfl) (Nat.le_of_ble_eq_true rfl) (Nat.le_of_ble_eq_true rfl) ?_
        refine r_iadd (pc := 60) dX0_holds_60 ?_
        refine r_ireturn (pc := 61) rfl dX0_holds_61 ⟨_, rfl, ?_⟩
        exact (show oX xo mo Z (holdsS S x1, S) _ _ by unfold holdsS; rw [cI_f (fun h => h.elim (fun q => q hy) (fun q => absurd (h22.symm.trans q) (by decide))), cI_t h22]; exact ⟨rfl, wa, hx⟩)
      · obtain ⟨ta, hr, -, hT, ht⟩ := hx.sth hS.2.1 (vp_in_lt (vp_sh hy)) h22
        refine r_aload_n (pc := 10) dX0_holds_10 rfl ?_
        refine r_getR (pc := 11) dX0_holds_11 fl_X0_59_0 hx.1.2.1 (fun _ _ => rfl) hx.1.2.2.1.1 ?_
        refine r_iload_n (pc := 14) dX0_holds_14 rfl ?_
        refine r_aaldR (pc := 15) dX0_holds_15 hx.1.2.2.2.1.1 rfl hx.1.2.2.2.1.2 (vp_sh hy) (hx.1.2.2.2.2.2.2.2.2.2 _ (vp_in_lt (vp_sh hy))).1 ?_
        refine r_getR (pc := 16) dX0_holds_16 fl_X0_143_4 (hx.1.2.2.2.2.2.2.2.2.2 (Int32.toNatClampNeg x1) (vp_in_lt (vp_sh hy))).2 (fun _ _ => rfl) hr ?_
        refine r_ifnonnull (pc := 19) 24 dX0_holds_19 rfl ?_
        refine r_aload_n (pc := 24) dX0_holds_24 rfl ?_
        refine r_getR (pc := 25) dX0_holds_25 fl_X0_59_0 hx.1.2.1 (fun _ _ => rfl) hx.1.2.2.1.1 ?_
        refine r_iload_n (pc := 28) dX0_holds_28 rfl ?_
        refine r_aaldR (pc := 29) dX0_holds_29 hx.1.2.2.2.1.1 rfl hx.1.2.2.2.1.2 (vp_sh hy) (hx.1.2.2.2.2.2.2.2.2.2 _ (vp_in_lt (vp_sh hy))).1 ?_
        refine r_getR (pc := 30) dX0_holds_30 fl_X0_143_4 (hx.1.2.2.2.2.2.2.2.2.2 (Int32.toNatClampNeg x1) (vp_in_lt (vp_sh hy))).2 (fun _ _ => rfl) hr ?_
        refine r_astore2 (pc := 33) dX0_holds_33 rfl ?_
        refine r_aload_n (pc := 34) dX0_holds_34 rfl ?_
        refine r_instTh (pc := 35) (kd_rg hT hB (ix_lt ht.1 ht.2)) dX0_holds_35 hT.2.1 q603 ?_
        refine r_if_eq (pc := 38) 51 dX0_holds_38 rfl (fun hno => absurd hno (by decide)) (fun _ => ?_)
        refine r_aload_n (pc := 41) dX0_holds_41 rfl ?_
        refine r_castTh (pc := 42) (kd_rg hT hB (ix_lt ht.1 ht.2)) dX0_holds_42 hT.2.1 q603 ?_
        refine r_thI (pc := 45) (v := S.1 25 (Int32.toNatClampNeg x1)) dX0_holds_45 hT (hB.2 _ (ix_lt ht.1 ht.2)).1 fls_X0_146 fvs_0 (hT.2.2.1.trans (nI_self ht.1).symm) ?_
        refine r_goto (pc := 48) 61 dX0_holds_48 rfl ?_
        refine r_ireturn (pc := 61) rfl dX0_holds_61 ⟨_, rfl, ?_⟩
        exact (show oX xo mo Z (holdsS S x1, S) _ _ by unfold holdsS; rw [cI_f (fun h => h.elim (fun q => q hy) (fun q => absurd (h22.symm.trans q) (by decide))), cI_f (by rw [h22]; decide)]; exact ⟨rfl, wa, hx⟩)
