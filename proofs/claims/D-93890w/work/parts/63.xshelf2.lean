/-! X: Shelf's methods, newRow (printed by gen/mk_x63.py) -/
set_option maxRecDepth 100000
theorem nc_rf_cc : Cond.not (.castable "NoFartherThanAThrow$Refused" "java/lang/ClassCastException") ∈ flatC (Jvm.Cond.and given_1 narrow_1) := nc_of [false, false, true, false, true, false, true, false, false] rfl
theorem nc_rf_ai : Cond.not (.castable "NoFartherThanAThrow$Refused" "java/lang/ArrayIndexOutOfBoundsException") ∈ flatC (Jvm.Cond.and given_1 narrow_1) := nc_of [false, false, false, true, false, false, true, true, false] rfl
theorem nc_ai_rf : Cond.not (.castable "java/lang/ArrayIndexOutOfBoundsException" "NoFartherThanAThrow$Refused") ∈ flatC (Jvm.Cond.and given_1 narrow_1) := nc_of [false, false, false, false, true, false, false, false, false] rfl
theorem nc_rf_io : Cond.not (.castable "NoFartherThanAThrow$Refused" "java/lang/IndexOutOfBoundsException") ∈ flatC (Jvm.Cond.and given_1 narrow_1) := nc_of [false, false, true, true, false, true, false, false, true] rfl
theorem nc_rf_fa : Cond.not (.castable "NoFartherThanAThrow$Refused" "NoFartherThanAThrow$Faulty") ∈ flatC (Jvm.Cond.and given_1 narrow_1) := nc_of [false, true, false, false, true, false, false, false, true] rfl
theorem nc_fa_rf : Cond.not (.castable "NoFartherThanAThrow$Faulty" "NoFartherThanAThrow$Refused") ∈ flatC (Jvm.Cond.and given_1 narrow_1) := nc_of [false, false, false, false, true, true, true, true, true] rfl
theorem nc_rf_na : Cond.not (.castable "NoFartherThanAThrow$Refused" "java/lang/NegativeArraySizeException") ∈ flatC (Jvm.Cond.and given_1 narrow_1) := nc_of [false, false, false, true, true, true, true, false, true] rfl
section
variable {G : GT} {bc bs : Nat} {M : PM} {pc : Nat} {ls : List (Option Value)} {st : List Value}
/-- it leaves the method, past handlers that don't take it -/
theorem t_outP {q : Nat} {E : String} (hp : ∀ z ∈ tableOf (gh G), covers z pc = false ∨ (z.catchType ≠ 0 ∧ ∃ nm2 : String, Cond.classLink (gy G).cls z.catchType nm2 ∈ lw_all ∧ Cond.not (.castable E nm2) ∈ flatC (Jvm.Cond.and given_1 narrow_1))) (hx : gX G q E M) : Tx G bc bs M pc ls q E := by
  intro Ω l p e s m args below meth c F H locs cells slots lsr rest ce hR hS hl h1 h2 g1 g2 g3
  obtain ⟨-, -, -, hlk, -, hown, hts, hCx, htb, -, -⟩ := id F
  refine vx_outP hown hlk (fun z hz => ?_) g1 g2 g3 (fun t ht hW => ⟨⟨M, hx, by rw [ht]; exact hR⟩, hS.F ht⟩) hS.2.2 (by omega) (by omega)
  rw [htb] at hz
  rcases hp z hz with h | ⟨ha, nm2, hb, hc⟩
  · exact Or.inl h
  · exact Or.inr ⟨ha, nm2, hts _ hb, hCx.2.2.2.2.1 _ _ hc⟩
theorem r_castRw {a c idx : Nat} (hc : 8 ≤ c ∧ c ≤ 11) (d : decode (gc G) pc = .ok (.checkcast idx, 3)) (hK : mK M a = (1, c)) (hlk : Cond.classLink (gy G).cls idx "NoFartherThanAThrow$Row" ∈ lw_all) (k : Wx G bc bs M (pc + 3) ls (.ref a :: st)) : Wx G bc bs M pc ls (.ref a :: st) := by
  rcases (show c = 8 ∨ c = 9 ∨ c = 10 ∨ c = 11 by omega) with rfl | rfl | rfl | rfl
  · exact r_castY (RX8, TX8, 1) _ d hK rfl hlk q1945 k
  · exact r_castY (RX9, TX9, 1) _ d hK rfl hlk q1948 k
  · exact r_castY (RX10, TX10, 1) _ d hK rfl hlk q1946 k
  · exact r_castY (RX11, TX11, 1) _ d hK rfl hlk q1947 k
theorem r_castTh {a c idx : Nat} (hc : 12 ≤ c ∧ c ≤ 18) (d : decode (gc G) pc = .ok (.checkcast idx, 3)) (hK : mK M a = (1, c)) (hlk : Cond.classLink (gy G).cls idx "NoFartherThanAThrow$Thing" ∈ lw_all) (k : Wx G bc bs M (pc + 3) ls (.ref a :: st)) : Wx G bc bs M pc ls (.ref a :: st) := by
  rcases (show c = 12 ∨ c = 13 ∨ c = 14 ∨ c = 15 ∨ c = 16 ∨ c = 17 ∨ c = 18 by omega) with rfl | rfl | rfl | rfl | rfl | rfl | rfl
  · exact r_castE (RX12, TX12, 3) d hK rfl hlk k
  · exact r_castY (RX13, TX13, 3) _ d hK rfl hlk q1951 k
  · exact r_castY (RX14, TX14, 3) _ d hK rfl hlk q1952 k
  · exact r_castY (RX15, TX15, 3) _ d hK rfl hlk q1949 k
  · exact r_castY (RX16, TX16, 3) _ d hK rfl hlk q1950 k
  · exact r_castY (RX17, TX17, 3) _ d hK rfl hlk q1953 k
  · exact r_castY (RX18, TX18, 3) _ d hK rfl hlk q1954 k
theorem r_instTh {a c idx : Nat} (hc : 12 ≤ c ∧ c ≤ 18) (d : decode (gc G) pc = .ok (.instanceof idx, 3)) (hK : mK M a = (1, c)) (hlk : Cond.classLink (gy G).cls idx "NoFartherThanAThrow$Thing" ∈ lw_all) (k : Wx G bc bs M (pc + 3) ls (.int 1 :: st)) : Wx G bc bs M pc ls (.ref a :: st) := by
  rcases (show c = 12 ∨ c = 13 ∨ c = 14 ∨ c = 15 ∨ c = 16 ∨ c = 17 ∨ c = 18 by omega) with rfl | rfl | rfl | rfl | rfl | rfl | rfl
  · exact r_instE (RX12, TX12, 3) d hK rfl hlk k
  · exact r_instY (RX13, TX13, 3) _ d hK rfl hlk q1951 k
  · exact r_instY (RX14, TX14, 3) _ d hK rfl hlk q1952 k
  · exact r_instY (RX15, TX15, 3) _ d hK rfl hlk q1949 k
  · exact r_instY (RX16, TX16, 3) _ d hK rfl hlk q1950 k
  · exact r_instY (RX17, TX17, 3) _ d hK rfl hlk q1953 k
  · exact r_instY (RX18, TX18, 3) _ d hK rfl hlk q1954 k
theorem r_instRw {a c idx : Nat} (hc : 8 ≤ c ∧ c ≤ 11) (d : decode (gc G) pc = .ok (.instanceof idx, 3)) (hK : mK M a = (1, c)) (hlk : Cond.classLink (gy G).cls idx "NoFartherThanAThrow$Thing" ∈ lw_all) (k : Wx G bc bs M (pc + 3) ls (.int 0 :: st)) : Wx G bc bs M pc ls (.ref a :: st) := by
  rcases (show c = 8 ∨ c = 9 ∨ c = 10 ∨ c = 11 by omega) with rfl | rfl | rfl | rfl
  · exact r_instNo (RX8, TX8, 1) _ d hK rfl hlk nc_0 k
  · exact r_instNo (RX9, TX9, 1) _ d hK rfl hlk nc_1 k
  · exact r_instNo (RX10, TX10, 1) _ d hK rfl hlk nc_2 k
  · exact r_instNo (RX11, TX11, 1) _ d hK rfl hlk nc_3 k
theorem r_castXRow {a c idx : Nat} (hc : 12 ≤ c ∧ c ≤ 18) (d : decode (gc G) pc = .ok (.checkcast idx, 3)) (hK : mK M a = (1, c)) (hlk : Cond.classLink (gy G).cls idx "NoFartherThanAThrow$Row" ∈ lw_all) (hF : 6 < gF G) (hO : ((.ref a :: st).map fun v => v.category).sum + 10240 ≤ gO G) (h1c : 3 ≤ bc) (h2c : 950 ≤ bs) (kk : ∀ N q, M.1 ≤ N → Tx G (bc - 3) (bs - 950) (grow M N) pc ls q exC) : Wx G bc bs M pc ls (.ref a :: st) := by
  rcases (show c = 12 ∨ c = 13 ∨ c = 14 ∨ c = 15 ∨ c = 16 ∨ c = 17 ∨ c = 18 by omega) with rfl | rfl | rfl | rfl | rfl | rfl | rfl
  · exact r_castX (RX12, TX12, 3) _ d hK rfl hlk nc_61 (by decide) (by decide) hF hO h1c h2c kk
  · exact r_castX (RX13, TX13, 3) _ d hK rfl hlk nc_62 (by decide) (by decide) hF hO h1c h2c kk
  · exact r_castX (RX14, TX14, 3) _ d hK rfl hlk nc_63 (by decide) (by decide) hF hO h1c h2c kk
  · exact r_castX (RX15, TX15, 3) _ d hK rfl hlk nc_64 (by decide) (by decide) hF hO h1c h2c kk
  · exact r_castX (RX16, TX16, 3) _ d hK rfl hlk nc_65 (by decide) (by decide) hF hO h1c h2c kk
  · exact r_castX (RX17, TX17, 3) _ d hK rfl hlk nc_66 (by decide) (by decide) hF hO h1c h2c kk
  · exact r_castX (RX18, TX18, 3) _ d hK rfl hlk nc_67 (by decide) (by decide) hF hO h1c h2c kk
theorem r_castXHeavy {a c idx : Nat} (hc : 8 ≤ c ∧ c ≤ 11) (d : decode (gc G) pc = .ok (.checkcast idx, 3)) (hK : mK M a = (1, c)) (hlk : Cond.classLink (gy G).cls idx "NoFartherThanAThrow$Heavy" ∈ lw_all) (hF : 6 < gF G) (hO : ((.ref a :: st).map fun v => v.category).sum + 10240 ≤ gO G) (h1c : 3 ≤ bc) (h2c : 950 ≤ bs) (kk : ∀ N q, M.1 ≤ N → Tx G (bc - 3) (bs - 950) (grow M N) pc ls q exC) : Wx G bc bs M pc ls (.ref a :: st) := by
  rcases (show c = 8 ∨ c = 9 ∨ c = 10 ∨ c = 11 by omega) with rfl | rfl | rfl | rfl
  · exact r_castX (RX8, TX8, 1) _ d hK rfl hlk nc_4 (by decide) (by decide) hF hO h1c h2c kk
  · exact r_castX (RX9, TX9, 1) _ d hK rfl hlk nc_5 (by decide) (by decide) hF hO h1c h2c kk
  · exact r_castX (RX10, TX10, 1) _ d hK rfl hlk nc_6 (by decide) (by decide) hF hO h1c h2c kk
  · exact r_castX (RX11, TX11, 1) _ d hK rfl hlk nc_7 (by decide) (by decide) hF hO h1c h2c kk
theorem r_castXLight {a c idx : Nat} (hc : 8 ≤ c ∧ c ≤ 11) (d : decode (gc G) pc = .ok (.checkcast idx, 3)) (hK : mK M a = (1, c)) (hlk : Cond.classLink (gy G).cls idx "NoFartherThanAThrow$Light" ∈ lw_all) (hF : 6 < gF G) (hO : ((.ref a :: st).map fun v => v.category).sum + 10240 ≤ gO G) (h1c : 3 ≤ bc) (h2c : 950 ≤ bs) (kk : ∀ N q, M.1 ≤ N → Tx G (bc - 3) (bs - 950) (grow M N) pc ls q exC) : Wx G bc bs M pc ls (.ref a :: st) := by
  rcases (show c = 8 ∨ c = 9 ∨ c = 10 ∨ c = 11 by omega) with rfl | rfl | rfl | rfl
  · exact r_castX (RX8, TX8, 1) _ d hK rfl hlk nc_12 (by decide) (by decide) hF hO h1c h2c kk
  · exact r_castX (RX9, TX9, 1) _ d hK rfl hlk nc_13 (by decide) (by decide) hF hO h1c h2c kk
  · exact r_castX (RX10, TX10, 1) _ d hK rfl hlk nc_14 (by decide) (by decide) hF hO h1c h2c kk
  · exact r_castX (RX11, TX11, 1) _ d hK rfl hlk nc_15 (by decide) (by decide) hF hO h1c h2c kk
theorem r_castXFeather {a c idx : Nat} (hc : 8 ≤ c ∧ c ≤ 11) (d : decode (gc G) pc = .ok (.checkcast idx, 3)) (hK : mK M a = (1, c)) (hlk : Cond.classLink (gy G).cls idx "NoFartherThanAThrow$Feather" ∈ lw_all) (hF : 6 < gF G) (hO : ((.ref a :: st).map fun v => v.category).sum + 10240 ≤ gO G) (h1c : 3 ≤ bc) (h2c : 950 ≤ bs) (kk : ∀ N q, M.1 ≤ N → Tx G (bc - 3) (bs - 950) (grow M N) pc ls q exC) : Wx G bc bs M pc ls (.ref a :: st) := by
  rcases (show c = 8 ∨ c = 9 ∨ c = 10 ∨ c = 11 by omega) with rfl | rfl | rfl | rfl
  · exact r_castX (RX8, TX8, 1) _ d hK rfl hlk nc_21 (by decide) (by decide) hF hO h1c h2c kk
  · exact r_castX (RX9, TX9, 1) _ d hK rfl hlk nc_22 (by decide) (by decide) hF hO h1c h2c kk
  · exact r_castX (RX10, TX10, 1) _ d hK rfl hlk nc_23 (by decide) (by decide) hF hO h1c h2c kk
  · exact r_castX (RX11, TX11, 1) _ d hK rfl hlk nc_24 (by decide) (by decide) hF hO h1c h2c kk
theorem r_castXGlass {a c idx : Nat} (hc : 8 ≤ c ∧ c ≤ 11) (d : decode (gc G) pc = .ok (.checkcast idx, 3)) (hK : mK M a = (1, c)) (hlk : Cond.classLink (gy G).cls idx "NoFartherThanAThrow$Glass" ∈ lw_all) (hF : 6 < gF G) (hO : ((.ref a :: st).map fun v => v.category).sum + 10240 ≤ gO G) (h1c : 3 ≤ bc) (h2c : 950 ≤ bs) (kk : ∀ N q, M.1 ≤ N → Tx G (bc - 3) (bs - 950) (grow M N) pc ls q exC) : Wx G bc bs M pc ls (.ref a :: st) := by
  rcases (show c = 8 ∨ c = 9 ∨ c = 10 ∨ c = 11 by omega) with rfl | rfl | rfl | rfl
  · exact r_castX (RX8, TX8, 1) _ d hK rfl hlk nc_31 (by decide) (by decide) hF hO h1c h2c kk
  · exact r_castX (RX9, TX9, 1) _ d hK rfl hlk nc_32 (by decide) (by decide) hF hO h1c h2c kk
  · exact r_castX (RX10, TX10, 1) _ d hK rfl hlk nc_33 (by decide) (by decide) hF hO h1c h2c kk
  · exact r_castX (RX11, TX11, 1) _ d hK rfl hlk nc_34 (by decide) (by decide) hF hO h1c h2c kk
theorem r_castXParted {a c idx : Nat} (hc : 8 ≤ c ∧ c ≤ 11) (d : decode (gc G) pc = .ok (.checkcast idx, 3)) (hK : mK M a = (1, c)) (hlk : Cond.classLink (gy G).cls idx "NoFartherThanAThrow$Parted" ∈ lw_all) (hF : 6 < gF G) (hO : ((.ref a :: st).map fun v => v.category).sum + 10240 ≤ gO G) (h1c : 3 ≤ bc) (h2c : 950 ≤ bs) (kk : ∀ N q, M.1 ≤ N → Tx G (bc - 3) (bs - 950) (grow M N) pc ls q exC) : Wx G bc bs M pc ls (.ref a :: st) := by
  rcases (show c = 8 ∨ c = 9 ∨ c = 10 ∨ c = 11 by omega) with rfl | rfl | rfl | rfl
  · exact r_castX (RX8, TX8, 1) _ d hK rfl hlk nc_41 (by decide) (by decide) hF hO h1c h2c kk
  · exact r_castX (RX9, TX9, 1) _ d hK rfl hlk nc_42 (by decide) (by decide) hF hO h1c h2c kk
  · exact r_castX (RX10, TX10, 1) _ d hK rfl hlk nc_43 (by decide) (by decide) hF hO h1c h2c kk
  · exact r_castX (RX11, TX11, 1) _ d hK rfl hlk nc_44 (by decide) (by decide) hF hO h1c h2c kk
theorem r_castXRound {a c idx : Nat} (hc : 8 ≤ c ∧ c ≤ 11) (d : decode (gc G) pc = .ok (.checkcast idx, 3)) (hK : mK M a = (1, c)) (hlk : Cond.classLink (gy G).cls idx "NoFartherThanAThrow$Round" ∈ lw_all) (hF : 6 < gF G) (hO : ((.ref a :: st).map fun v => v.category).sum + 10240 ≤ gO G) (h1c : 3 ≤ bc) (h2c : 950 ≤ bs) (kk : ∀ N q, M.1 ≤ N → Tx G (bc - 3) (bs - 950) (grow M N) pc ls q exC) : Wx G bc bs M pc ls (.ref a :: st) := by
  rcases (show c = 8 ∨ c = 9 ∨ c = 10 ∨ c = 11 by omega) with rfl | rfl | rfl | rfl
  · exact r_castX (RX8, TX8, 1) _ d hK rfl hlk nc_51 (by decide) (by decide) hF hO h1c h2c kk
  · exact r_castX (RX9, TX9, 1) _ d hK rfl hlk nc_52 (by decide) (by decide) hF hO h1c h2c kk
  · exact r_castX (RX10, TX10, 1) _ d hK rfl hlk nc_53 (by decide) (by decide) hF hO h1c h2c kk
  · exact r_castX (RX11, TX11, 1) _ d hK rfl hlk nc_54 (by decide) (by decide) hF hO h1c h2c kk
theorem r_castXThing {a c idx : Nat} (hc : 8 ≤ c ∧ c ≤ 11) (d : decode (gc G) pc = .ok (.checkcast idx, 3)) (hK : mK M a = (1, c)) (hlk : Cond.classLink (gy G).cls idx "NoFartherThanAThrow$Thing" ∈ lw_all) (hF : 6 < gF G) (hO : ((.ref a :: st).map fun v => v.category).sum + 10240 ≤ gO G) (h1c : 3 ≤ bc) (h2c : 950 ≤ bs) (kk : ∀ N q, M.1 ≤ N → Tx G (bc - 3) (bs - 950) (grow M N) pc ls q exC) : Wx G bc bs M pc ls (.ref a :: st) := by
  rcases (show c = 8 ∨ c = 9 ∨ c = 10 ∨ c = 11 by omega) with rfl | rfl | rfl | rfl
  · exact r_castX (RX8, TX8, 1) _ d hK rfl hlk nc_0 (by decide) (by decide) hF hO h1c h2c kk
  · exact r_castX (RX9, TX9, 1) _ d hK rfl hlk nc_1 (by decide) (by decide) hF hO h1c h2c kk
  · exact r_castX (RX10, TX10, 1) _ d hK rfl hlk nc_2 (by decide) (by decide) hF hO h1c h2c kk
  · exact r_castX (RX11, TX11, 1) _ d hK rfl hlk nc_3 (by decide) (by decide) hF hO h1c h2c kk
end
theorem so_le {σ : cS} (h : OkH σ) {s : Nat} (hs : s < 8) (h1 : σ 22 s = 1) : 8 ≤ 8 + Int32.toNatClampNeg (σ 23 s) ∧ 8 + Int32.toNatClampNeg (σ 23 s) ≤ 11 := by
  obtain ⟨⟨a, b⟩, -⟩ := (h s hs).2.1 h1
  have := ix_toInt a
  omega
theorem kd_rg {M : PM} {σ : cS} {i ta : Nat} (h : TH M σ i ta) (hB : OkT σ) (hi : i < Int32.toNatClampNeg (σ 0 0)) : 12 ≤ 12 + Int32.toNatClampNeg (σ 11 i) ∧ 12 + Int32.toNatClampNeg (σ 11 i) ≤ 18 := ⟨by omega, kd_le (hB.2 i hi).1⟩
theorem ct_X4_row {M : PM} {xo wa mo : Nat} {Z : PM} {S : ST} (hx : XO M xo wa mo Z S) {s : Nat} (hs : s < 8) (hS : OkS S.1) : Ct (YX4_row, (8, 10260, 4, 957), qr (fun r M' => (∃ n, roX M S xo mo s r n) ∧ M' = M), fun q E M' => (S.1 22 s = 2 ∧ rfO xo wa mo Z S (-2) q E M') ∨ (S.1 22 s = 0 ∧ rfO xo wa mo Z S (-3) q E M')) [.ref (xo + (27 + s))] M := by
  refine ct_ofH [some (.ref (xo + (27 + s))), none] rfl rfl (Nat.le_of_ble_eq_true rfl) rfl rfl ?_
  rcases (hS.2.1 s hs).1 with h22 | h22 | h22
  · refine r_aload_n (pc := 0) dX4_row_0 rfl ?_
    refine r_getN (pc := 1) dX4_row_1 fl_X4_9_4 (hx.1.2.2.2.2.2.2.2.2.2 s hs).2 (fun _ _ => rfl) (hx.sno hs h22) ?_
    refine r_castN (pc := 4) dX4_row_4 ?_
    refine r_astoreN1 (pc := 7) dX4_row_7 rfl ?_
    refine r_aloadN_n (pc := 8) dX4_row_8 rfl ?_
    refine r_ifnullN (pc := 9) 16 dX4_row_9 rfl ?_
    refine r_iconst (pc := 16) (v := 0) dX4_row_16 (by decide) ?_
    refine r_bipush (pc := 17) (v := (-3)) dX4_row_17 (by decide) ?_
    refine r_s2 (pc := 19) (bc' := 3) (bs' := 950) (ct_X0_need _ _) k_X4_17 dX4_row_19 (Nat.le_of_ble_eq_true rfl) ⟨Nat.le_of_ble_eq_true rfl, Nat.le_of_ble_eq_true rfl⟩ ⟨Nat.le_of_ble_eq_true rfl, Nat.le_of_ble_eq_true rfl⟩ (r_cv fun M19 p19 => ?_) (fun q E M9 h9 => by obtain ⟨-, rfl, rfl, rfl⟩ := h9; exact t_outP (fun z hz => Or.inr ⟨by rw [List.mem_singleton.mp hz]; decide, _, by rw [List.mem_singleton.mp hz]; exact q492, nc_rf_cc⟩) (Or.inr ⟨h22, hx.rf ⟨rfl, rfl, rfl⟩⟩))
    exact absurd rfl p19.1
  · obtain ⟨ra, n, hro⟩ := hx.ro hs h22
    refine r_aload_n (pc := 0) dX4_row_0 rfl ?_
    refine r_getR (pc := 1) dX4_row_1 fl_X4_9_4 (hx.1.2.2.2.2.2.2.2.2.2 s hs).2 (fun _ _ => rfl) hro.2.1 ?_
    refine r_castRw (pc := 4) (so_le hS.2.1 hs h22) dX4_row_4 hro.2.2.2.1.1 q506 ?_
    refine r_astore1 (pc := 7) dX4_row_7 rfl ?_
    refine r_aload_n (pc := 8) dX4_row_8 rfl ?_
    refine r_ifnull (pc := 9) dX4_row_9 ?_
    refine r_iconst (pc := 12) (v := 1) dX4_row_12 (by decide) ?_
    refine r_goto (pc := 13) 17 dX4_row_13 rfl ?_
    refine r_bipush (pc := 17) (v := (-3)) dX4_row_17 (by decide) ?_
    refine r_s2 (pc := 19) (bc' := 3) (bs' := 950) (ct_X0_need _ _) k_X4_17 dX4_row_19 (Nat.le_of_ble_eq_true rfl) ⟨Nat.le_of_ble_eq_true rfl, Nat.le_of_ble_eq_true rfl⟩ ⟨Nat.le_of_ble_eq_true rfl, Nat.le_of_ble_eq_true rfl⟩ (r_cv fun M19 p19 => ?_) (fun q E M9 h9 => absurd h9.1 (by decide))
    obtain ⟨-, p19⟩ := p19
    have p19 := Eq.symm (show _ = _ from p19)
    subst p19
    refine r_aload_n (pc := 22) dX4_row_22 rfl ?_
    refine r_areturn (pc := 23) rfl (Or.inl ⟨_, rfl⟩) (Or.inr ⟨_, rfl⟩) dX4_row_23 ⟨_, rfl, ?_⟩
    exact ⟨⟨n, hro⟩, rfl⟩
  · obtain ⟨ta, hr, -, hT, ht⟩ := hx.sth hS.2.1 hs h22
    refine r_aload_n (pc := 0) dX4_row_0 rfl ?_
    refine r_getR (pc := 1) dX4_row_1 fl_X4_9_4 (hx.1.2.2.2.2.2.2.2.2.2 s hs).2 (fun _ _ => rfl) hr ?_
    refine r_castXRow (pc := 4) (kd_rg hT hS.1.t (ix_lt ht.1 ht.2)) dX4_row_4 hT.2.1 q506 (Nat.le_of_ble_eq_true rfl) (Nat.le_of_ble_eq_true rfl) (Nat.le_of_ble_eq_true rfl) (Nat.le_of_ble_eq_true rfl) (fun N q hN => ?_)
    have hx2 := hx.grown (frP.rf.grow hN)
    refine t_catch [] _ _ _ rfl (fun z hz => absurd hz List.not_mem_nil) rfl (by decide) q492 q504 ?_
    show Wx _ 1 7 (grow M N) 24 _ _
    refine r_astore1 (pc := 24) dX4_row_24 rfl ?_
    refine r_new (c := 6) (pc := 25) (RX6, TX6, 7) dX4_row_25 rfl q508 q388 q91 dv_6 (Nat.le_of_ble_eq_true rfl) rfl (Nat.le_of_ble_eq_true rfl) ?_
    refine r_dup (pc := 28) dX4_row_28 rfl ?_
    refine r_bipush (pc := 29) (v := (-2)) dX4_row_29 (by decide) ?_
    refine r_o2 (pc := 31) (bc' := 0) (bs' := 0) (ct_X6_init (-2) (nw_K _ _ _) (nw_R _ _ _)) k_X4_25_6 dX4_row_31 (nw_K _ _ _) (Nat.le_of_ble_eq_true rfl) ⟨Nat.le_of_ble_eq_true rfl, Nat.le_of_ble_eq_true rfl⟩ ⟨Nat.le_of_ble_eq_true rfl, Nat.le_of_ble_eq_true rfl⟩ (r_cv fun M31 p31 => ?_) nox
    have p31 := Eq.symm (show _ = _ from p31)
    subst p31
    refine r_athrow (pc := 34) (c := 6) dX4_row_34 (nw_K (grow M N) (1, 6) 0) rfl ?_
    exact t_out rfl (Or.inl ⟨h22, hx2.rf ⟨rfl, rfl, rfl⟩⟩)
theorem ct_X4_holdsThing {M : PM} {xo wa mo : Nat} {Z : PM} {S : ST} (hx : XO M xo wa mo Z S) {s : Nat} (hs : s < 8) (hS : OkS S.1) : Ct (YX4_holdsThing, (0, 0, 0, 0), qi (fun r M' => r = bI (S.1 22 s = 2) ∧ M' = M), noX) [.ref (xo + (27 + s))] M := by
  refine ct_of [some (.ref (xo + (27 + s)))] rfl rfl rfl (Nat.le_of_ble_eq_true rfl) rfl rfl ?_
  rcases (hS.2.1 s hs).1 with h22 | h22 | h22
  · refine r_aload_n (pc := 0) dX4_holdsThing_0 rfl ?_
    refine r_getN (pc := 1) dX4_holdsThing_1 fl_X4_9_4 (hx.1.2.2.2.2.2.2.2.2.2 s hs).2 (fun _ _ => rfl) (hx.sno hs h22) ?_
    refine r_instN (pc := 4) dX4_holdsThing_4 ?_
    refine r_zreturn (pc := 7) rfl rfl dX4_holdsThing_7 ⟨_, rfl, ?_⟩
    exact ⟨bI_f' (by rw [h22]; decide), rfl⟩
  · obtain ⟨ra, n, hro⟩ := hx.ro hs h22
    refine r_aload_n (pc := 0) dX4_holdsThing_0 rfl ?_
    refine r_getR (pc := 1) dX4_holdsThing_1 fl_X4_9_4 (hx.1.2.2.2.2.2.2.2.2.2 s hs).2 (fun _ _ => rfl) hro.2.1 ?_
    refine r_instRw (pc := 4) (so_le hS.2.1 hs h22) dX4_holdsThing_4 hro.2.2.2.1.1 q534 ?_
    refine r_zreturn (pc := 7) rfl rfl dX4_holdsThing_7 ⟨_, rfl, ?_⟩
    exact ⟨bI_f' (by rw [h22]; decide), rfl⟩
  · obtain ⟨ta, hr, -, hT, ht⟩ := hx.sth hS.2.1 hs h22
    refine r_aload_n (pc := 0) dX4_holdsThing_0 rfl ?_
    refine r_getR (pc := 1) dX4_holdsThing_1 fl_X4_9_4 (hx.1.2.2.2.2.2.2.2.2.2 s hs).2 (fun _ _ => rfl) hr ?_
    refine r_instTh (pc := 4) (kd_rg hT hS.1.t (ix_lt ht.1 ht.2)) dX4_holdsThing_4 hT.2.1 q534 ?_
    refine r_zreturn (pc := 7) rfl rfl dX4_holdsThing_7 ⟨_, rfl, ?_⟩
    exact ⟨bI_t' h22, rfl⟩
theorem br1 {x : Int32} {P : Prop} (h : x = 0 ∨ (x = 1 ∧ P)) (h0 : ¬ x = 0) : x = 1 := h.elim (fun e => absurd e h0) (fun e => e.1)
theorem ct_X16_broken {M : PM} {a wa : Nat} {σ : cS} {t : Nat} (hw : WX M wa σ) (hB : OkW σ) (hK : mK M a = (1, 16)) (ht : t < Int32.toNatClampNeg (σ 0 0)) (h0 : mI M a 0 = nI t) : Ct (YX16_broken, (0, 0, 0, 0), qi (fun r M' => r = σ 16 t ∧ M' = M), noX) [.ref a, .ref wa] M := by
  refine ct_of [some (.ref a), some (.ref wa)] rfl rfl rfl (Nat.le_of_ble_eq_true rfl) rfl rfl ?_
  have hN : t < 8 := by have := hB.1.1; have := ix_toInt this.1; omega
  have hix : Int32.toNatClampNeg (nI t) = t := ix_nI (by omega)
  refine r_aload_n (pc := 0) dX16_broken_0 rfl ?_
  refine r_getR (pc := 1) dX16_broken_1 fl_X16_22_3 hw.k (fun _ _ => rfl) hw.r12 ?_
  refine r_aload_n (pc := 4) dX16_broken_4 rfl ?_
  refine r_getIe (pc := 5) (v := nI t) dX16_broken_5 fl_X16_28_16 hK (fun _ _ => rfl) h0 ?_
  refine r_zaldv (pc := 8) (v := σ 16 t) dX16_broken_8 hw.k12 hw.z12 (vp_in_nI (by omega) (by decide)) (by rw [hix]; exact (hw.2.2.1 t ht).2.2.2) ?_
  refine r_if_eq (pc := 9) 16 dX16_broken_9 rfl (fun h9 => ?_) (fun h9 => ?_)
  · refine r_iconst (pc := 16) (v := 0) dX16_broken_16 (by decide) ?_
    refine r_ireturn (pc := 17) rfl dX16_broken_17 ⟨_, rfl, ?_⟩
    first | exact ⟨h9.symm, rfl⟩ | exact ⟨(br1 (hB.2.2.1 t ht).2.2.2.2.2 h9).symm, rfl⟩
  · refine r_iconst (pc := 12) (v := 1) dX16_broken_12 (by decide) ?_
    refine r_goto (pc := 13) 17 dX16_broken_13 rfl ?_
    refine r_ireturn (pc := 17) rfl dX16_broken_17 ⟨_, rfl, ?_⟩
    first | exact ⟨h9.symm, rfl⟩ | exact ⟨(br1 (hB.2.2.1 t ht).2.2.2.2.2 h9).symm, rfl⟩
theorem says_n {S : ST} {x k : Int32} (hs : shelfP x) (hk : ¬ k < 0 ∧ ¬ 6 < k) : ¬ (¬ shelfP x ∨ k < 0 ∨ 6 < k) := fun h => h.elim (fun q => q hs) (fun q => q.elim hk.1 hk.2)
theorem says_0 {S : ST} {x k : Int32} (hs : shelfP x) (hk : ¬ k < 0 ∧ ¬ 6 < k) (h : S.1 22 (Int32.toNatClampNeg x) = 0) : saysS S x k = noS S (-3) := by
  unfold saysS
  rw [cI_f (says_n (S := S) hs hk), cI_f (by rw [h]; decide), cI_t h]
theorem says_1 {S : ST} {x k : Int32} (hs : shelfP x) (hk : ¬ k < 0 ∧ ¬ 6 < k) (h : S.1 22 (Int32.toNatClampNeg x) = 1) : saysS S x k = noS S (-2) := by
  unfold saysS
  rw [cI_f (says_n (S := S) hs hk), cI_t h]
theorem says_2 {S : ST} {x k : Int32} (hs : shelfP x) (hk : ¬ k < 0 ∧ ¬ 6 < k) (h : S.1 22 (Int32.toNatClampNeg x) = 2) {t : Nat} (ht : Int32.toNatClampNeg (S.1 25 (Int32.toNatClampNeg x)) = t) : saysS S x k = cI (¬ k = 0 ∧ ¬ k = S.1 11 t ∧ ¬ (k = 1 ∧ (S.1 11 t = 5 ∨ S.1 11 t = 6)) ∧ ¬ (k = 2 ∧ S.1 11 t = 3)) (noS S (-2)) (cI (k = 0) (S.1 12 t, S) (cI (k = 4) (S.1 16 t, S) (cI (k = 2 ∨ k = 3) (farBS S.1 9 t, S) (S.1 13 t, S)))) := by
  unfold saysS
  rw [cI_f (says_n (S := S) hs hk), cI_f (by rw [h]; decide), cI_f (by rw [h]; decide), ht]
theorem say_0 {x : Int32} (h : ¬ x < 0 ∧ ¬ 6 < x) (h1 : x.toInt < 1 ∨ 6 < x.toInt) : x = 0 := by
  have c0 : (0 : Int32).toInt = 0 := by decide
  have c6 : (6 : Int32).toInt = 6 := by decide
  rw [i_lt, i_lt] at h
  rw [i_eq]
  omega
theorem ct_X4_says {M : PM} {xo wa mo : Nat} {Z : PM} {S : ST} (hx : XO M xo wa mo Z S) {xs : Int32} (hxs : shelfP xs) (x1 : Int32) (hx1 : ¬ x1 < 0 ∧ ¬ 6 < x1) (hS : OkS S.1) : Ct (YX4_says, (8, 10260, 4, 957), qi (fun r M' => saysS S xs x1 = (r, S) ∧ M' = M), fun q E M' => ∃ b, saysS S xs x1 = noS S b ∧ bd b (-7) (-1) ∧ rfO xo wa mo Z S b q E M') [.ref (xo + (27 + Int32.toNatClampNeg xs)), .int x1, .ref wa] M := by
  refine ct_ofH [some (.ref (xo + (27 + Int32.toNatClampNeg xs))), some (.int x1), some (.ref wa), none] rfl rfl (Nat.le_of_ble_eq_true rfl) rfl rfl ?_
  have hH : ∀ (M9 : PM) (q : Nat) (o3 : Option Value), XO M9 xo wa mo Z S → saysS S xs x1 = noS S (-2) → Wx (YX4_says, (8, 10260, 4, 957), qi (fun r M' => saysS S xs x1 = (r, S) ∧ M' = M), fun q E M' => ∃ b, saysS S xs x1 = noS S b ∧ bd b (-7) (-1) ∧ rfO xo wa mo Z S b q E M') 1 7 M9 244 [some (.ref (xo + (27 + Int32.toNatClampNeg xs))), some (.int x1), some (.ref wa), o3] [.ref q] := by
    intro M9 q o3 h1 h2
    refine r_astore3 (pc := 244) dX4_says_244 rfl ?_
    refine r_new (c := 6) (pc := 245) (RX6, TX6, 7) dX4_says_245 rfl q508 q388 q91 dv_6 (Nat.le_of_ble_eq_true rfl) rfl (Nat.le_of_ble_eq_true rfl) ?_
    refine r_dup (pc := 248) dX4_says_248 rfl ?_
    refine r_bipush (pc := 249) (v := (-2)) dX4_says_249 (by decide) ?_
    refine r_o2 (pc := 251) (bc' := 0) (bs' := 0) (ct_X6_init (-2) (nw_K _ _ _) (nw_R _ _ _)) k_X4_25_6 dX4_says_251 (nw_K _ _ _) (Nat.le_of_ble_eq_true rfl) ⟨Nat.le_of_ble_eq_true rfl, Nat.le_of_ble_eq_true rfl⟩ ⟨Nat.le_of_ble_eq_true rfl, Nat.le_of_ble_eq_true rfl⟩ (r_cv fun M251 p251 => ?_) nox
    have p251 := Eq.symm (show _ = _ from p251)
    subst p251
    refine r_athrow (pc := 254) (c := 6) dX4_says_254 (nw_K M9 (1, 6) 0) rfl ?_
    exact t_out rfl ⟨-2, h2, by decide, h1.rf ⟨rfl, rfl, rfl⟩⟩
  have hs := (vp_in_lt (vp_sh hxs))
  have hf0 : ∀ k, 1 ≤ k → k ≤ 6 → nI k = Int32.ofNat k := fun _ _ _ => rfl
  rcases (hS.2.1 _ hs).1 with h22 | h22 | h22
  · refine r_iload_n (pc := 0) dX4_says_0 rfl ?_
    refine r_sp_1_6 (fun h1 => ?_) (fun h1 => ?_) (fun h1 => ?_) (fun h1 => ?_) (fun h1 => ?_) (fun h1 => ?_) (fun h1 => ?_)
    · refine r_swIn (pc := 1) 40 dX4_says_1 (by decide) (by decide) rfl rfl ?_
      refine r_aload_n (pc := 40) dX4_says_40 rfl ?_
      refine r_getN (pc := 41) dX4_says_41 fl_X4_9_4 (hx.1.2.2.2.2.2.2.2.2.2 (Int32.toNatClampNeg xs) (vp_in_lt (vp_sh hxs))).2 (fun _ _ => rfl) (hx.sno hs h22) ?_
      refine r_ifnonnullN (pc := 44) dX4_says_44 ?_
      refine r_iconst (pc := 47) (v := (-1)) dX4_says_47 (by decide) ?_
      refine r_goto (pc := 48) 61 dX4_says_48 rfl ?_
      refine r_istore3 (pc := 61) dX4_says_61 rfl ?_
      refine r_goto (pc := 62) 225 dX4_says_62 rfl ?_
      refine r_aload_n (pc := 225) dX4_says_225 rfl ?_
      refine r_getN (pc := 226) dX4_says_226 fl_X4_9_4 (hx.1.2.2.2.2.2.2.2.2.2 (Int32.toNatClampNeg xs) (vp_in_lt (vp_sh hxs))).2 (fun _ _ => rfl) (hx.sno hs h22) ?_
      refine r_ifnullN (pc := 229) 236 dX4_says_229 rfl ?_
      refine r_iconst (pc := 236) (v := 0) dX4_says_236 (by decide) ?_
      refine r_bipush (pc := 237) (v := (-3)) dX4_says_237 (by decide) ?_
      refine r_s2 (pc := 239) (bc' := 3) (bs' := 950) (ct_X0_need _ _) k_X4_17 dX4_says_239 (Nat.le_of_ble_eq_true rfl) ⟨Nat.le_of_ble_eq_true rfl, Nat.le_of_ble_eq_true rfl⟩ ⟨Nat.le_of_ble_eq_true rfl, Nat.le_of_ble_eq_true rfl⟩ (r_cv fun M239 p239 => ?_) (fun q E M9 h9 => by obtain ⟨-, rfl, rfl, rfl⟩ := h9; exact t_outP (fun z hz => Or.inr ⟨by rw [List.mem_singleton.mp hz]; decide, _, by rw [List.mem_singleton.mp hz]; exact q492, nc_rf_cc⟩) ⟨-3, says_0 hxs hx1 h22, by decide, hx.rf ⟨rfl, rfl, rfl⟩⟩)
      exact absurd rfl p239.1
    · refine r_swIn (pc := 1) 65 dX4_says_1 (by decide) (by decide) rfl rfl ?_
      refine r_aload_n (pc := 65) dX4_says_65 rfl ?_
      refine r_getN (pc := 66) dX4_says_66 fl_X4_9_4 (hx.1.2.2.2.2.2.2.2.2.2 (Int32.toNatClampNeg xs) (vp_in_lt (vp_sh hxs))).2 (fun _ _ => rfl) (hx.sno hs h22) ?_
      refine r_ifnonnullN (pc := 69) dX4_says_69 ?_
      refine r_iconst (pc := 72) (v := (-1)) dX4_says_72 (by decide) ?_
      refine r_goto (pc := 73) 92 dX4_says_73 rfl ?_
      refine r_istore3 (pc := 92) dX4_says_92 rfl ?_
      refine r_goto (pc := 93) 225 dX4_says_93 rfl ?_
      refine r_aload_n (pc := 225) dX4_says_225 rfl ?_
      refine r_getN (pc := 226) dX4_says_226 fl_X4_9_4 (hx.1.2.2.2.2.2.2.2.2.2 (Int32.toNatClampNeg xs) (vp_in_lt (vp_sh hxs))).2 (fun _ _ => rfl) (hx.sno hs h22) ?_
      refine r_ifnullN (pc := 229) 236 dX4_says_229 rfl ?_
      refine r_iconst (pc := 236) (v := 0) dX4_says_236 (by decide) ?_
      refine r_bipush (pc := 237) (v := (-3)) dX4_says_237 (by decide) ?_
      refine r_s2 (pc := 239) (bc' := 3) (bs' := 950) (ct_X0_need _ _) k_X4_17 dX4_says_239 (Nat.le_of_ble_eq_true rfl) ⟨Nat.le_of_ble_eq_true rfl, Nat.le_of_ble_eq_true rfl⟩ ⟨Nat.le_of_ble_eq_true rfl, Nat.le_of_ble_eq_true rfl⟩ (r_cv fun M239 p239 => ?_) (fun q E M9 h9 => by obtain ⟨-, rfl, rfl, rfl⟩ := h9; exact t_outP (fun z hz => Or.inr ⟨by rw [List.mem_singleton.mp hz]; decide, _, by rw [List.mem_singleton.mp hz]; exact q492, nc_rf_cc⟩) ⟨-3, says_0 hxs hx1 h22, by decide, hx.rf ⟨rfl, rfl, rfl⟩⟩)
      exact absurd rfl p239.1
    · refine r_swIn (pc := 1) 96 dX4_says_1 (by decide) (by decide) rfl rfl ?_
      refine r_aload_n (pc := 96) dX4_says_96 rfl ?_
      refine r_getN (pc := 97) dX4_says_97 fl_X4_9_4 (hx.1.2.2.2.2.2.2.2.2.2 (Int32.toNatClampNeg xs) (vp_in_lt (vp_sh hxs))).2 (fun _ _ => rfl) (hx.sno hs h22) ?_
      refine r_ifnonnullN (pc := 100) dX4_says_100 ?_
      refine r_iconst (pc := 103) (v := (-1)) dX4_says_103 (by decide) ?_
      refine r_goto (pc := 104) 123 dX4_says_104 rfl ?_
      refine r_istore3 (pc := 123) dX4_says_123 rfl ?_
      refine r_goto (pc := 124) 225 dX4_says_124 rfl ?_
      refine r_aload_n (pc := 225) dX4_says_225 rfl ?_
      refine r_getN (pc := 226) dX4_says_226 fl_X4_9_4 (hx.1.2.2.2.2.2.2.2.2.2 (Int32.toNatClampNeg xs) (vp_in_lt (vp_sh hxs))).2 (fun _ _ => rfl) (hx.sno hs h22) ?_
      refine r_ifnullN (pc := 229) 236 dX4_says_229 rfl ?_
      refine r_iconst (pc := 236) (v := 0) dX4_says_236 (by decide) ?_
      refine r_bipush (pc := 237) (v := (-3)) dX4_says_237 (by decide) ?_
      refine r_s2 (pc := 239) (bc' := 3) (bs' := 950) (ct_X0_need _ _) k_X4_17 dX4_says_239 (Nat.le_of_ble_eq_true rfl) ⟨Nat.le_of_ble_eq_true rfl, Nat.le_of_ble_eq_true rfl⟩ ⟨Nat.le_of_ble_eq_true rfl, Nat.le_of_ble_eq_true rfl⟩ (r_cv fun M239 p239 => ?_) (fun q E M9 h9 => by obtain ⟨-, rfl, rfl, rfl⟩ := h9; exact t_outP (fun z hz => Or.inr ⟨by rw [List.mem_singleton.mp hz]; decide, _, by rw [List.mem_singleton.mp hz]; exact q492, nc_rf_cc⟩) ⟨-3, says_0 hxs hx1 h22, by decide, hx.rf ⟨rfl, rfl, rfl⟩⟩)
      exact absurd rfl p239.1
    · refine r_swIn (pc := 1) 127 dX4_says_1 (by decide) (by decide) rfl rfl ?_
      refine r_aload_n (pc := 127) dX4_says_127 rfl ?_
      refine r_getN (pc := 128) dX4_says_128 fl_X4_9_4 (hx.1.2.2.2.2.2.2.2.2.2 (Int32.toNatClampNeg xs) (vp_in_lt (vp_sh hxs))).2 (fun _ _ => rfl) (hx.sno hs h22) ?_
      refine r_ifnonnullN (pc := 131) dX4_says_131 ?_
      refine r_iconst (pc := 134) (v := (-1)) dX4_says_134 (by decide) ?_
      refine r_goto (pc := 135) 149 dX4_says_135 rfl ?_
      refine r_istore3 (pc := 149) dX4_says_149 rfl ?_
      refine r_goto (pc := 150) 225 dX4_says_150 rfl ?_
      refine r_aload_n (pc := 225) dX4_says_225 rfl ?_
      refine r_getN (pc := 226) dX4_says_226 fl_X4_9_4 (hx.1.2.2.2.2.2.2.2.2.2 (Int32.toNatClampNeg xs) (vp_in_lt (vp_sh hxs))).2 (fun _ _ => rfl) (hx.sno hs h22) ?_
      refine r_ifnullN (pc := 229) 236 dX4_says_229 rfl ?_
      refine r_iconst (pc := 236) (v := 0) dX4_says_236 (by decide) ?_
      refine r_bipush (pc := 237) (v := (-3)) dX4_says_237 (by decide) ?_
      refine r_s2 (pc := 239) (bc' := 3) (bs' := 950) (ct_X0_need _ _) k_X4_17 dX4_says_239 (Nat.le_of_ble_eq_true rfl) ⟨Nat.le_of_ble_eq_true rfl, Nat.le_of_ble_eq_true rfl⟩ ⟨Nat.le_of_ble_eq_true rfl, Nat.le_of_ble_eq_true rfl⟩ (r_cv fun M239 p239 => ?_) (fun q E M9 h9 => by obtain ⟨-, rfl, rfl, rfl⟩ := h9; exact t_outP (fun z hz => Or.inr ⟨by rw [List.mem_singleton.mp hz]; decide, _, by rw [List.mem_singleton.mp hz]; exact q492, nc_rf_cc⟩) ⟨-3, says_0 hxs hx1 h22, by decide, hx.rf ⟨rfl, rfl, rfl⟩⟩)
      exact absurd rfl p239.1
    · refine r_swIn (pc := 1) 153 dX4_says_1 (by decide) (by decide) rfl rfl ?_
      refine r_aload_n (pc := 153) dX4_says_153 rfl ?_
      refine r_getN (pc := 154) dX4_says_154 fl_X4_9_4 (hx.1.2.2.2.2.2.2.2.2.2 (Int32.toNatClampNeg xs) (vp_in_lt (vp_sh hxs))).2 (fun _ _ => rfl) (hx.sno hs h22) ?_
      refine r_ifnonnullN (pc := 157) dX4_says_157 ?_
      refine r_iconst (pc := 160) (v := (-1)) dX4_says_160 (by decide) ?_
      refine r_goto (pc := 161) 174 dX4_says_161 rfl ?_
      refine r_istore3 (pc := 174) dX4_says_174 rfl ?_
      refine r_goto (pc := 175) 225 dX4_says_175 rfl ?_
      refine r_aload_n (pc := 225) dX4_says_225 rfl ?_
      refine r_getN (pc := 226) dX4_says_226 fl_X4_9_4 (hx.1.2.2.2.2.2.2.2.2.2 (Int32.toNatClampNeg xs) (vp_in_lt (vp_sh hxs))).2 (fun _ _ => rfl) (hx.sno hs h22) ?_
      refine r_ifnullN (pc := 229) 236 dX4_says_229 rfl ?_
      refine r_iconst (pc := 236) (v := 0) dX4_says_236 (by decide) ?_
      refine r_bipush (pc := 237) (v := (-3)) dX4_says_237 (by decide) ?_
      refine r_s2 (pc := 239) (bc' := 3) (bs' := 950) (ct_X0_need _ _) k_X4_17 dX4_says_239 (Nat.le_of_ble_eq_true rfl) ⟨Nat.le_of_ble_eq_true rfl, Nat.le_of_ble_eq_true rfl⟩ ⟨Nat.le_of_ble_eq_true rfl, Nat.le_of_ble_eq_true rfl⟩ (r_cv fun M239 p239 => ?_) (fun q E M9 h9 => by obtain ⟨-, rfl, rfl, rfl⟩ := h9; exact t_outP (fun z hz => Or.inr ⟨by rw [List.mem_singleton.mp hz]; decide, _, by rw [List.mem_singleton.mp hz]; exact q492, nc_rf_cc⟩) ⟨-3, says_0 hxs hx1 h22, by decide, hx.rf ⟨rfl, rfl, rfl⟩⟩)
      exact absurd rfl p239.1
    · refine r_swIn (pc := 1) 178 dX4_says_1 (by decide) (by decide) rfl rfl ?_
      refine r_aload_n (pc := 178) dX4_says_178 rfl ?_
      refine r_getN (pc := 179) dX4_says_179 fl_X4_9_4 (hx.1.2.2.2.2.2.2.2.2.2 (Int32.toNatClampNeg xs) (vp_in_lt (vp_sh hxs))).2 (fun _ _ => rfl) (hx.sno hs h22) ?_
      refine r_ifnonnullN (pc := 182) dX4_says_182 ?_
      refine r_iconst (pc := 185) (v := (-1)) dX4_says_185 (by decide) ?_
      refine r_goto (pc := 186) 199 dX4_says_186 rfl ?_
      refine r_istore3 (pc := 199) dX4_says_199 rfl ?_
      refine r_goto (pc := 200) 225 dX4_says_200 rfl ?_
      refine r_aload_n (pc := 225) dX4_says_225 rfl ?_
      refine r_getN (pc := 226) dX4_says_226 fl_X4_9_4 (hx.1.2.2.2.2.2.2.2.2.2 (Int32.toNatClampNeg xs) (vp_in_lt (vp_sh hxs))).2 (fun _ _ => rfl) (hx.sno hs h22) ?_
      refine r_ifnullN (pc := 229) 236 dX4_says_229 rfl ?_
      refine r_iconst (pc := 236) (v := 0) dX4_says_236 (by decide) ?_
      refine r_bipush (pc := 237) (v := (-3)) dX4_says_237 (by decide) ?_
      refine r_s2 (pc := 239) (bc' := 3) (bs' := 950) (ct_X0_need _ _) k_X4_17 dX4_says_239 (Nat.le_of_ble_eq_true rfl) ⟨Nat.le_of_ble_eq_true rfl, Nat.le_of_ble_eq_true rfl⟩ ⟨Nat.le_of_ble_eq_true rfl, Nat.le_of_ble_eq_true rfl⟩ (r_cv fun M239 p239 => ?_) (fun q E M9 h9 => by obtain ⟨-, rfl, rfl, rfl⟩ := h9; exact t_outP (fun z hz => Or.inr ⟨by rw [List.mem_singleton.mp hz]; decide, _, by rw [List.mem_singleton.mp hz]; exact q492, nc_rf_cc⟩) ⟨-3, says_0 hxs hx1 h22, by decide, hx.rf ⟨rfl, rfl, rfl⟩⟩)
      exact absurd rfl p239.1
    · refine r_swOut (pc := 1) 203 dX4_says_1 h1 rfl ?_
      refine r_aload_n (pc := 203) dX4_says_203 rfl ?_
      refine r_getN (pc := 204) dX4_says_204 fl_X4_9_4 (hx.1.2.2.2.2.2.2.2.2.2 (Int32.toNatClampNeg xs) (vp_in_lt (vp_sh hxs))).2 (fun _ _ => rfl) (hx.sno hs h22) ?_
      refine r_ifnonnullN (pc := 207) dX4_says_207 ?_
      refine r_iconst (pc := 210) (v := (-1)) dX4_says_210 (by decide) ?_
      refine r_goto (pc := 211) 224 dX4_says_211 rfl ?_
      refine r_istore3 (pc := 224) dX4_says_224 rfl ?_
      refine r_aload_n (pc := 225) dX4_says_225 rfl ?_
      refine r_getN (pc := 226) dX4_says_226 fl_X4_9_4 (hx.1.2.2.2.2.2.2.2.2.2 (Int32.toNatClampNeg xs) (vp_in_lt (vp_sh hxs))).2 (fun _ _ => rfl) (hx.sno hs h22) ?_
      refine r_ifnullN (pc := 229) 236 dX4_says_229 rfl ?_
      refine r_iconst (pc := 236) (v := 0) dX4_says_236 (by decide) ?_
      refine r_bipush (pc := 237) (v := (-3)) dX4_says_237 (by decide) ?_
      refine r_s2 (pc := 239) (bc' := 3) (bs' := 950) (ct_X0_need _ _) k_X4_17 dX4_says_239 (Nat.le_of_ble_eq_true rfl) ⟨Nat.le_of_ble_eq_true rfl, Nat.le_of_ble_eq_true rfl⟩ ⟨Nat.le_of_ble_eq_true rfl, Nat.le_of_ble_eq_true rfl⟩ (r_cv fun M239 p239 => ?_) (fun q E M9 h9 => by obtain ⟨-, rfl, rfl, rfl⟩ := h9; exact t_outP (fun z hz => Or.inr ⟨by rw [List.mem_singleton.mp hz]; decide, _, by rw [List.mem_singleton.mp hz]; exact q492, nc_rf_cc⟩) ⟨-3, says_0 hxs hx1 h22, by decide, hx.rf ⟨rfl, rfl, rfl⟩⟩)
      exact absurd rfl p239.1
  · obtain ⟨ra, n, hro⟩ := hx.ro hs h22
    refine r_iload_n (pc := 0) dX4_says_0 rfl ?_
    refine r_sp_1_6 (fun h1 => ?_) (fun h1 => ?_) (fun h1 => ?_) (fun h1 => ?_) (fun h1 => ?_) (fun h1 => ?_) (fun h1 => ?_)
    · refine r_swIn (pc := 1) 40 dX4_says_1 (by decide) (by decide) rfl rfl ?_
      refine r_aload_n (pc := 40) dX4_says_40 rfl ?_
      refine r_getR (pc := 41) dX4_says_41 fl_X4_9_4 (hx.1.2.2.2.2.2.2.2.2.2 (Int32.toNatClampNeg xs) (vp_in_lt (vp_sh hxs))).2 (fun _ _ => rfl) hro.2.1 ?_
      refine r_ifnonnull (pc := 44) 51 dX4_says_44 rfl ?_
      refine r_aload_n (pc := 51) dX4_says_51 rfl ?_
      refine r_getR (pc := 52) dX4_says_52 fl_X4_9_4 (hx.1.2.2.2.2.2.2.2.2.2 (Int32.toNatClampNeg xs) (vp_in_lt (vp_sh hxs))).2 (fun _ _ => rfl) hro.2.1 ?_
      refine r_castXHeavy (pc := 55) (so_le hS.2.1 hs h22) dX4_says_55 hro.2.2.2.1.1 q614 (Nat.le_of_ble_eq_true rfl) (Nat.le_of_ble_eq_true rfl) (Nat.le_of_ble_eq_true rfl) (Nat.le_of_ble_eq_true rfl) (fun N q hN => ?_)
      have hx2 := hx.grown (frP.rf.grow hN)
      refine t_catch [] _ _ _ rfl (fun z hz => absurd hz List.not_mem_nil) rfl (by decide) q492 q504 ?_
      show Wx _ 1 7 (grow M N) 244 _ _
      exact hH _ q _ hx2 (says_1 hxs hx1 h22)
    · refine r_swIn (pc := 1) 65 dX4_says_1 (by decide) (by decide) rfl rfl ?_
      refine r_aload_n (pc := 65) dX4_says_65 rfl ?_
      refine r_getR (pc := 66) dX4_says_66 fl_X4_9_4 (hx.1.2.2.2.2.2.2.2.2.2 (Int32.toNatClampNeg xs) (vp_in_lt (vp_sh hxs))).2 (fun _ _ => rfl) hro.2.1 ?_
      refine r_ifnonnull (pc := 69) 76 dX4_says_69 rfl ?_
      refine r_aload_n (pc := 76) dX4_says_76 rfl ?_
      refine r_getR (pc := 77) dX4_says_77 fl_X4_9_4 (hx.1.2.2.2.2.2.2.2.2.2 (Int32.toNatClampNeg xs) (vp_in_lt (vp_sh hxs))).2 (fun _ _ => rfl) hro.2.1 ?_
      refine r_castXLight (pc := 80) (so_le hS.2.1 hs h22) dX4_says_80 hro.2.2.2.1.1 q622 (Nat.le_of_ble_eq_true rfl) (Nat.le_of_ble_eq_true rfl) (Nat.le_of_ble_eq_true rfl) (Nat.le_of_ble_eq_true rfl) (fun N q hN => ?_)
      have hx2 := hx.grown (frP.rf.grow hN)
      refine t_catch [] _ _ _ rfl (fun z hz => absurd hz List.not_mem_nil) rfl (by decide) q492 q504 ?_
      show Wx _ 1 7 (grow M N) 244 _ _
      exact hH _ q _ hx2 (says_1 hxs hx1 h22)
    · refine r_swIn (pc := 1) 96 dX4_says_1 (by decide) (by decide) rfl rfl ?_
      refine r_aload_n (pc := 96) dX4_says_96 rfl ?_
      refine r_getR (pc := 97) dX4_says_97 fl_X4_9_4 (hx.1.2.2.2.2.2.2.2.2.2 (Int32.toNatClampNeg xs) (vp_in_lt (vp_sh hxs))).2 (fun _ _ => rfl) hro.2.1 ?_
      refine r_ifnonnull (pc := 100) 107 dX4_says_100 rfl ?_
      refine r_aload_n (pc := 107) dX4_says_107 rfl ?_
      refine r_getR (pc := 108) dX4_says_108 fl_X4_9_4 (hx.1.2.2.2.2.2.2.2.2.2 (Int32.toNatClampNeg xs) (vp_in_lt (vp_sh hxs))).2 (fun _ _ => rfl) hro.2.1 ?_
      refine r_castXFeather (pc := 111) (so_le hS.2.1 hs h22) dX4_says_111 hro.2.2.2.1.1 q672 (Nat.le_of_ble_eq_true rfl) (Nat.le_of_ble_eq_true rfl) (Nat.le_of_ble_eq_true rfl) (Nat.le_of_ble_eq_true rfl) (fun N q hN => ?_)
      have hx2 := hx.grown (frP.rf.grow hN)
      refine t_catch [] _ _ _ rfl (fun z hz => absurd hz List.not_mem_nil) rfl (by decide) q492 q504 ?_
      show Wx _ 1 7 (grow M N) 244 _ _
      exact hH _ q _ hx2 (says_1 hxs hx1 h22)
    · refine r_swIn (pc := 1) 127 dX4_says_1 (by decide) (by decide) rfl rfl ?_
      refine r_aload_n (pc := 127) dX4_says_127 rfl ?_
      refine r_getR (pc := 128) dX4_says_128 fl_X4_9_4 (hx.1.2.2.2.2.2.2.2.2.2 (Int32.toNatClampNeg xs) (vp_in_lt (vp_sh hxs))).2 (fun _ _ => rfl) hro.2.1 ?_
      refine r_ifnonnull (pc := 131) 138 dX4_says_131 rfl ?_
      refine r_aload_n (pc := 138) dX4_says_138 rfl ?_
      refine r_getR (pc := 139) dX4_says_139 fl_X4_9_4 (hx.1.2.2.2.2.2.2.2.2.2 (Int32.toNatClampNeg xs) (vp_in_lt (vp_sh hxs))).2 (fun _ _ => rfl) hro.2.1 ?_
      refine r_castXGlass (pc := 142) (so_le hS.2.1 hs h22) dX4_says_142 hro.2.2.2.1.1 q674 (Nat.le_of_ble_eq_true rfl) (Nat.le_of_ble_eq_true rfl) (Nat.le_of_ble_eq_true rfl) (Nat.le_of_ble_eq_true rfl) (fun N q hN => ?_)
      have hx2 := hx.grown (frP.rf.grow hN)
      refine t_catch [] _ _ _ rfl (fun z hz => absurd hz List.not_mem_nil) rfl (by decide) q492 q504 ?_
      show Wx _ 1 7 (grow M N) 244 _ _
      exact hH _ q _ hx2 (says_1 hxs hx1 h22)
    · refine r_swIn (pc := 1) 153 dX4_says_1 (by decide) (by decide) rfl rfl ?_
      refine r_aload_n (pc := 153) dX4_says_153 rfl ?_
      refine r_getR (pc := 154) dX4_says_154 fl_X4_9_4 (hx.1.2.2.2.2.2.2.2.2.2 (Int32.toNatClampNeg xs) (vp_in_lt (vp_sh hxs))).2 (fun _ _ => rfl) hro.2.1 ?_
      refine r_ifnonnull (pc := 157) 164 dX4_says_157 rfl ?_
      refine r_aload_n (pc := 164) dX4_says_164 rfl ?_
      refine r_getR (pc := 165) dX4_says_165 fl_X4_9_4 (hx.1.2.2.2.2.2.2.2.2.2 (Int32.toNatClampNeg xs) (vp_in_lt (vp_sh hxs))).2 (fun _ _ => rfl) hro.2.1 ?_
      refine r_castXParted (pc := 168) (so_le hS.2.1 hs h22) dX4_says_168 hro.2.2.2.1.1 q679 (Nat.le_of_ble_eq_true rfl) (Nat.le_of_ble_eq_true rfl) (Nat.le_of_ble_eq_true rfl) (Nat.le_of_ble_eq_true rfl) (fun N q hN => ?_)
      have hx2 := hx.grown (frP.rf.grow hN)
      refine t_catch [] _ _ _ rfl (fun z hz => absurd hz List.not_mem_nil) rfl (by decide) q492 q504 ?_
      show Wx _ 1 7 (grow M N) 244 _ _
      exact hH _ q _ hx2 (says_1 hxs hx1 h22)
    · refine r_swIn (pc := 1) 178 dX4_says_1 (by decide) (by decide) rfl rfl ?_
      refine r_aload_n (pc := 178) dX4_says_178 rfl ?_
      refine r_getR (pc := 179) dX4_says_179 fl_X4_9_4 (hx.1.2.2.2.2.2.2.2.2.2 (Int32.toNatClampNeg xs) (vp_in_lt (vp_sh hxs))).2 (fun _ _ => rfl) hro.2.1 ?_
      refine r_ifnonnull (pc := 182) 189 dX4_says_182 rfl ?_
      refine r_aload_n (pc := 189) dX4_says_189 rfl ?_
      refine r_getR (pc := 190) dX4_says_190 fl_X4_9_4 (hx.1.2.2.2.2.2.2.2.2.2 (Int32.toNatClampNeg xs) (vp_in_lt (vp_sh hxs))).2 (fun _ _ => rfl) hro.2.1 ?_
      refine r_castXRound (pc := 193) (so_le hS.2.1 hs h22) dX4_says_193 hro.2.2.2.1.1 q684 (Nat.le_of_ble_eq_true rfl) (Nat.le_of_ble_eq_true rfl) (Nat.le_of_ble_eq_true rfl) (Nat.le_of_ble_eq_true rfl) (fun N q hN => ?_)
      have hx2 := hx.grown (frP.rf.grow hN)
      refine t_catch [] _ _ _ rfl (fun z hz => absurd hz List.not_mem_nil) rfl (by decide) q492 q504 ?_
      show Wx _ 1 7 (grow M N) 244 _ _
      exact hH _ q _ hx2 (says_1 hxs hx1 h22)
    · refine r_swOut (pc := 1) 203 dX4_says_1 h1 rfl ?_
      refine r_aload_n (pc := 203) dX4_says_203 rfl ?_
      refine r_getR (pc := 204) dX4_says_204 fl_X4_9_4 (hx.1.2.2.2.2.2.2.2.2.2 (Int32.toNatClampNeg xs) (vp_in_lt (vp_sh hxs))).2 (fun _ _ => rfl) hro.2.1 ?_
      refine r_ifnonnull (pc := 207) 214 dX4_says_207 rfl ?_
      refine r_aload_n (pc := 214) dX4_says_214 rfl ?_
      refine r_getR (pc := 215) dX4_says_215 fl_X4_9_4 (hx.1.2.2.2.2.2.2.2.2.2 (Int32.toNatClampNeg xs) (vp_in_lt (vp_sh hxs))).2 (fun _ _ => rfl) hro.2.1 ?_
      refine r_castXThing (pc := 218) (so_le hS.2.1 hs h22) dX4_says_218 hro.2.2.2.1.1 q534 (Nat.le_of_ble_eq_true rfl) (Nat.le_of_ble_eq_true rfl) (Nat.le_of_ble_eq_true rfl) (Nat.le_of_ble_eq_true rfl) (fun N q hN => ?_)
      have hx2 := hx.grown (frP.rf.grow hN)
      refine t_catch [] _ _ _ rfl (fun z hz => absurd hz List.not_mem_nil) rfl (by decide) q492 q504 ?_
      show Wx _ 1 7 (grow M N) 244 _ _
      exact hH _ q _ hx2 (says_1 hxs hx1 h22)
  · obtain ⟨ta, hr, -, hT, ht⟩ := hx.sth hS.2.1 hs h22
    have htl := ix_lt ht.1 ht.2
    have hdv := hT.dv hS.1.t htl
    have hs2 := fun k hk => says_2 (S := S) (x := xs) (k := k) hxs hk h22 rfl
    generalize Int32.toNatClampNeg (S.1 25 (Int32.toNatClampNeg xs)) = t at hT htl hdv hs2
    have hX : ∀ (N q : Nat) (o3 : Option Value), M.1 ≤ N → saysS S xs x1 = noS S (-2) → Wx (YX4_says, (8, 10260, 4, 957), qi (fun r M' => saysS S xs x1 = (r, S) ∧ M' = M), fun q E M' => ∃ b, saysS S xs x1 = noS S b ∧ bd b (-7) (-1) ∧ rfO xo wa mo Z S b q E M') 1 7 (grow M N) 244 [some (.ref (xo + (27 + Int32.toNatClampNeg xs))), some (.int x1), some (.ref wa), o3] [.ref q] := fun N q o3 hN he => hH _ q o3 (hx.grown (frP.rf.grow hN)) he
    have hE : ∀ v : Int32, saysS S xs x1 = (v, S) → Wx (YX4_says, (8, 10260, 4, 957), qi (fun r M' => saysS S xs x1 = (r, S) ∧ M' = M), fun q E M' => ∃ b, saysS S xs x1 = noS S b ∧ bd b (-7) (-1) ∧ rfO xo wa mo Z S b q E M') 4 957 M 225 [some (.ref (xo + (27 + Int32.toNatClampNeg xs))), some (.int x1), some (.ref wa), some (.int v)] [] := by
      intro v hv
      refine r_aload_n (pc := 225) dX4_says_225 rfl ?_
      refine r_getR (pc := 226) dX4_says_226 fl_X4_9_4 (hx.1.2.2.2.2.2.2.2.2.2 (Int32.toNatClampNeg xs) (vp_in_lt (vp_sh hxs))).2 (fun _ _ => rfl) hr ?_
      refine r_ifnull (pc := 229) dX4_says_229 ?_
      refine r_iconst (pc := 232) (v := 1) dX4_says_232 (by decide) ?_
      refine r_goto (pc := 233) 237 dX4_says_233 rfl ?_
      refine r_bipush (pc := 237) (v := (-3)) dX4_says_237 (by decide) ?_
      refine r_s2 (pc := 239) (bc' := 3) (bs' := 950) (ct_X0_need _ _) k_X4_17 dX4_says_239 (Nat.le_of_ble_eq_true rfl) ⟨Nat.le_of_ble_eq_true rfl, Nat.le_of_ble_eq_true rfl⟩ ⟨Nat.le_of_ble_eq_true rfl, Nat.le_of_ble_eq_true rfl⟩ (r_cv fun M239 p239 => ?_) (fun q E M9 h9 => absurd h9.1 (by decide))
      obtain ⟨-, p239⟩ := p239
      have p239 := Eq.symm (show _ = _ from p239)
      subst p239
      refine r_iload_n (pc := 242) dX4_says_242 rfl ?_
      refine r_ireturn (pc := 243) rfl dX4_says_243 ⟨_, rfl, ?_⟩
      exact ⟨hv, rfl⟩
    rcases kd7 (hS.1.t.2 t htl).1 with e7 | e7 | e7 | e7 | e7 | e7 | e7
    · have hK7 := hT.k (k := 0) e7 (c := 12) rfl
      refine r_iload_n (pc := 0) dX4_says_0 rfl ?_
      refine r_sp_1_6 (fun h1 => ?_) (fun h1 => ?_) (fun h1 => ?_) (fun h1 => ?_) (fun h1 => ?_) (fun h1 => ?_) (fun h1 => ?_)
      · refine r_swIn (pc := 1) 40 dX4_says_1 (by decide) (by decide) rfl rfl ?_
        subst h1
        refine r_aload_n (pc := 40) dX4_says_40 rfl ?_
        refine r_getR (pc := 41) dX4_says_41 fl_X4_9_4 (hx.1.2.2.2.2.2.2.2.2.2 (Int32.toNatClampNeg xs) (vp_in_lt (vp_sh hxs))).2 (fun _ _ => rfl) hr ?_
        refine r_ifnonnull (pc := 44) 51 dX4_says_44 rfl ?_
        refine r_aload_n (pc := 51) dX4_says_51 rfl ?_
        refine r_getR (pc := 52) dX4_says_52 fl_X4_9_4 (hx.1.2.2.2.2.2.2.2.2.2 (Int32.toNatClampNeg xs) (vp_in_lt (vp_sh hxs))).2 (fun _ _ => rfl) hr ?_
        refine r_castX (pc := 55) (RX12, TX12, 3) _ dX4_says_55 hK7 rfl q614 nc_8 (by decide) (by decide) (Nat.le_of_ble_eq_true rfl) (Nat.le_of_ble_eq_true rfl) (Nat.le_of_ble_eq_true rfl) (Nat.le_of_ble_eq_true rfl) (fun N q hN => ?_)
        refine t_catch [] _ _ _ rfl (fun z hz => absurd hz List.not_mem_nil) rfl (by decide) q492 q504 ?_
        exact hX N q _ hN ((hs2 _ (by decide)).trans (by rw [e7]; exact cI_t (by decide)))
      · refine r_swIn (pc := 1) 65 dX4_says_1 (by decide) (by decide) rfl rfl ?_
        subst h1
        refine r_aload_n (pc := 65) dX4_says_65 rfl ?_
        refine r_getR (pc := 66) dX4_says_66 fl_X4_9_4 (hx.1.2.2.2.2.2.2.2.2.2 (Int32.toNatClampNeg xs) (vp_in_lt (vp_sh hxs))).2 (fun _ _ => rfl) hr ?_
        refine r_ifnonnull (pc := 69) 76 dX4_says_69 rfl ?_
        refine r_aload_n (pc := 76) dX4_says_76 rfl ?_
        refine r_getR (pc := 77) dX4_says_77 fl_X4_9_4 (hx.1.2.2.2.2.2.2.2.2.2 (Int32.toNatClampNeg xs) (vp_in_lt (vp_sh hxs))).2 (fun _ _ => rfl) hr ?_
        refine r_castX (pc := 80) (RX12, TX12, 3) _ dX4_says_80 hK7 rfl q622 nc_16 (by decide) (by decide) (Nat.le_of_ble_eq_true rfl) (Nat.le_of_ble_eq_true rfl) (Nat.le_of_ble_eq_true rfl) (Nat.le_of_ble_eq_true rfl) (fun N q hN => ?_)
        refine t_catch [] _ _ _ rfl (fun z hz => absurd hz List.not_mem_nil) rfl (by decide) q492 q504 ?_
        exact hX N q _ hN ((hs2 _ (by decide)).trans (by rw [e7]; exact cI_t (by decide)))
      · refine r_swIn (pc := 1) 96 dX4_says_1 (by decide) (by decide) rfl rfl ?_
        subst h1
        refine r_aload_n (pc := 96) dX4_says_96 rfl ?_
        refine r_getR (pc := 97) dX4_says_97 fl_X4_9_4 (hx.1.2.2.2.2.2.2.2.2.2 (Int32.toNatClampNeg xs) (vp_in_lt (vp_sh hxs))).2 (fun _ _ => rfl) hr ?_
        refine r_ifnonnull (pc := 100) 107 dX4_says_100 rfl ?_
        refine r_aload_n (pc := 107) dX4_says_107 rfl ?_
        refine r_getR (pc := 108) dX4_says_108 fl_X4_9_4 (hx.1.2.2.2.2.2.2.2.2.2 (Int32.toNatClampNeg xs) (vp_in_lt (vp_sh hxs))).2 (fun _ _ => rfl) hr ?_
        refine r_castX (pc := 111) (RX12, TX12, 3) _ dX4_says_111 hK7 rfl q672 nc_25 (by decide) (by decide) (Nat.le_of_ble_eq_true rfl) (Nat.le_of_ble_eq_true rfl) (Nat.le_of_ble_eq_true rfl) (Nat.le_of_ble_eq_true rfl) (fun N q hN => ?_)
        refine t_catch [] _ _ _ rfl (fun z hz => absurd hz List.not_mem_nil) rfl (by decide) q492 q504 ?_
        exact hX N q _ hN ((hs2 _ (by decide)).trans (by rw [e7]; exact cI_t (by decide)))
      · refine r_swIn (pc := 1) 127 dX4_says_1 (by decide) (by decide) rfl rfl ?_
        subst h1
        refine r_aload_n (pc := 127) dX4_says_127 rfl ?_
        refine r_getR (pc := 128) dX4_says_128 fl_X4_9_4 (hx.1.2.2.2.2.2.2.2.2.2 (Int32.toNatClampNeg xs) (vp_in_lt (vp_sh hxs))).2 (fun _ _ => rfl) hr ?_
        refine r_ifnonnull (pc := 131) 138 dX4_says_131 rfl ?_
        refine r_aload_n (pc := 138) dX4_says_138 rfl ?_
        refine r_getR (pc := 139) dX4_says_139 fl_X4_9_4 (hx.1.2.2.2.2.2.2.2.2.2 (Int32.toNatClampNeg xs) (vp_in_lt (vp_sh hxs))).2 (fun _ _ => rfl) hr ?_
        refine r_castX (pc := 142) (RX12, TX12, 3) _ dX4_says_142 hK7 rfl q674 nc_35 (by decide) (by decide) (Nat.le_of_ble_eq_true rfl) (Nat.le_of_ble_eq_true rfl) (Nat.le_of_ble_eq_true rfl) (Nat.le_of_ble_eq_true rfl) (fun N q hN => ?_)
        refine t_catch [] _ _ _ rfl (fun z hz => absurd hz List.not_mem_nil) rfl (by decide) q492 q504 ?_
        exact hX N q _ hN ((hs2 _ (by decide)).trans (by rw [e7]; exact cI_t (by decide)))
      · refine r_swIn (pc := 1) 153 dX4_says_1 (by decide) (by decide) rfl rfl ?_
        subst h1
        refine r_aload_n (pc := 153) dX4_says_153 rfl ?_
        refine r_getR (pc := 154) dX4_says_154 fl_X4_9_4 (hx.1.2.2.2.2.2.2.2.2.2 (Int32.toNatClampNeg xs) (vp_in_lt (vp_sh hxs))).2 (fun _ _ => rfl) hr ?_
        refine r_ifnonnull (pc := 157) 164 dX4_says_157 rfl ?_
        refine r_aload_n (pc := 164) dX4_says_164 rfl ?_
        refine r_getR (pc := 165) dX4_says_165 fl_X4_9_4 (hx.1.2.2.2.2.2.2.2.2.2 (Int32.toNatClampNeg xs) (vp_in_lt (vp_sh hxs))).2 (fun _ _ => rfl) hr ?_
        refine r_castX (pc := 168) (RX12, TX12, 3) _ dX4_says_168 hK7 rfl q679 nc_45 (by decide) (by decide) (Nat.le_of_ble_eq_true rfl) (Nat.le_of_ble_eq_true rfl) (Nat.le_of_ble_eq_true rfl) (Nat.le_of_ble_eq_true rfl) (fun N q hN => ?_)
        refine t_catch [] _ _ _ rfl (fun z hz => absurd hz List.not_mem_nil) rfl (by decide) q492 q504 ?_
        exact hX N q _ hN ((hs2 _ (by decide)).trans (by rw [e7]; exact cI_t (by decide)))
      · refine r_swIn (pc := 1) 178 dX4_says_1 (by decide) (by decide) rfl rfl ?_
        subst h1
        refine r_aload_n (pc := 178) dX4_says_178 rfl ?_
        refine r_getR (pc := 179) dX4_says_179 fl_X4_9_4 (hx.1.2.2.2.2.2.2.2.2.2 (Int32.toNatClampNeg xs) (vp_in_lt (vp_sh hxs))).2 (fun _ _ => rfl) hr ?_
        refine r_ifnonnull (pc := 182) 189 dX4_says_182 rfl ?_
        refine r_aload_n (pc := 189) dX4_says_189 rfl ?_
        refine r_getR (pc := 190) dX4_says_190 fl_X4_9_4 (hx.1.2.2.2.2.2.2.2.2.2 (Int32.toNatClampNeg xs) (vp_in_lt (vp_sh hxs))).2 (fun _ _ => rfl) hr ?_
        refine r_castX (pc := 193) (RX12, TX12, 3) _ dX4_says_193 hK7 rfl q684 nc_55 (by decide) (by decide) (Nat.le_of_ble_eq_true rfl) (Nat.le_of_ble_eq_true rfl) (Nat.le_of_ble_eq_true rfl) (Nat.le_of_ble_eq_true rfl) (fun N q hN => ?_)
        refine t_catch [] _ _ _ rfl (fun z hz => absurd hz List.not_mem_nil) rfl (by decide) q492 q504 ?_
        exact hX N q _ hN ((hs2 _ (by decide)).trans (by rw [e7]; exact cI_t (by decide)))
      · have hx0 : x1 = 0 := say_0 hx1 h1
        refine r_swOut (pc := 1) 203 dX4_says_1 h1 rfl ?_
        refine r_aload_n (pc := 203) dX4_says_203 rfl ?_
        refine r_getR (pc := 204) dX4_says_204 fl_X4_9_4 (hx.1.2.2.2.2.2.2.2.2.2 (Int32.toNatClampNeg xs) (vp_in_lt (vp_sh hxs))).2 (fun _ _ => rfl) hr ?_
        refine r_ifnonnull (pc := 207) 214 dX4_says_207 rfl ?_
        refine r_aload_n (pc := 214) dX4_says_214 rfl ?_
        refine r_getR (pc := 215) dX4_says_215 fl_X4_9_4 (hx.1.2.2.2.2.2.2.2.2.2 (Int32.toNatClampNeg xs) (vp_in_lt (vp_sh hxs))).2 (fun _ _ => rfl) hr ?_
        refine r_castE (pc := 218) (RX12, TX12, 3) dX4_says_218 hK7 rfl q534 ?_
        refine r_o1 (pc := 221) (bc' := 4) (bs' := 957) (ct_X12_said_12 hK7) k_X4_63_12 dX4_says_221 hK7 (Nat.le_of_ble_eq_true rfl) ⟨Nat.le_of_ble_eq_true rfl, Nat.le_of_ble_eq_true rfl⟩ ⟨Nat.le_of_ble_eq_true rfl, Nat.le_of_ble_eq_true rfl⟩ (r_ci fun r221 M221 p221 => ?_) nox
        obtain ⟨rfl, p221⟩ := p221
        have p221 := Eq.symm (show _ = _ from p221)
        subst p221
        refine r_eqi (S.1 12 t) hT.2.2.2.1 ?_
        refine r_istore3 (pc := 224) dX4_says_224 rfl ?_
        exact hE _ ((hs2 _ hx1).trans (by rw [cI_f (fun h => h.1 hx0), cI_t hx0]))
    · have hK7 := hT.k (k := 1) e7 (c := 13) rfl
      refine r_iload_n (pc := 0) dX4_says_0 rfl ?_
      refine r_sp_1_6 (fun h1 => ?_) (fun h1 => ?_) (fun h1 => ?_) (fun h1 => ?_) (fun h1 => ?_) (fun h1 => ?_) (fun h1 => ?_)
      · refine r_swIn (pc := 1) 40 dX4_says_1 (by decide) (by decide) rfl rfl ?_
        subst h1
        refine r_aload_n (pc := 40) dX4_says_40 rfl ?_
        refine r_getR (pc := 41) dX4_says_41 fl_X4_9_4 (hx.1.2.2.2.2.2.2.2.2.2 (Int32.toNatClampNeg xs) (vp_in_lt (vp_sh hxs))).2 (fun _ _ => rfl) hr ?_
        refine r_ifnonnull (pc := 44) 51 dX4_says_44 rfl ?_
        refine r_aload_n (pc := 51) dX4_says_51 rfl ?_
        refine r_getR (pc := 52) dX4_says_52 fl_X4_9_4 (hx.1.2.2.2.2.2.2.2.2.2 (Int32.toNatClampNeg xs) (vp_in_lt (vp_sh hxs))).2 (fun _ _ => rfl) hr ?_
        refine r_castE (pc := 55) (RX13, TX13, 3) dX4_says_55 hK7 rfl q614 ?_
        refine r_o1 (pc := 58) (bc' := 4) (bs' := 957) (ct_X13_more_13 hK7) k_X4_32_13 dX4_says_58 hK7 (Nat.le_of_ble_eq_true rfl) ⟨Nat.le_of_ble_eq_true rfl, Nat.le_of_ble_eq_true rfl⟩ ⟨Nat.le_of_ble_eq_true rfl, Nat.le_of_ble_eq_true rfl⟩ (r_ci fun r58 M58 p58 => ?_) nox
        obtain ⟨rfl, p58⟩ := p58
        have p58 := Eq.symm (show _ = _ from p58)
        subst p58
        refine r_eqi (S.1 13 t) hT.2.2.2.2 ?_
        refine r_istore3 (pc := 61) dX4_says_61 rfl ?_
        refine r_goto (pc := 62) 225 dX4_says_62 rfl ?_
        exact hE _ ((hs2 _ (by decide)).trans (by rw [e7]; rw [cI_f (by decide), cI_f (by decide), cI_f (by decide), cI_f (by decide)]))
      · refine r_swIn (pc := 1) 65 dX4_says_1 (by decide) (by decide) rfl rfl ?_
        subst h1
        refine r_aload_n (pc := 65) dX4_says_65 rfl ?_
        refine r_getR (pc := 66) dX4_says_66 fl_X4_9_4 (hx.1.2.2.2.2.2.2.2.2.2 (Int32.toNatClampNeg xs) (vp_in_lt (vp_sh hxs))).2 (fun _ _ => rfl) hr ?_
        refine r_ifnonnull (pc := 69) 76 dX4_says_69 rfl ?_
        refine r_aload_n (pc := 76) dX4_says_76 rfl ?_
        refine r_getR (pc := 77) dX4_says_77 fl_X4_9_4 (hx.1.2.2.2.2.2.2.2.2.2 (Int32.toNatClampNeg xs) (vp_in_lt (vp_sh hxs))).2 (fun _ _ => rfl) hr ?_
        refine r_castX (pc := 80) (RX13, TX13, 3) _ dX4_says_80 hK7 rfl q622 nc_17 (by decide) (by decide) (Nat.le_of_ble_eq_true rfl) (Nat.le_of_ble_eq_true rfl) (Nat.le_of_ble_eq_true rfl) (Nat.le_of_ble_eq_true rfl) (fun N q hN => ?_)
        refine t_catch [] _ _ _ rfl (fun z hz => absurd hz List.not_mem_nil) rfl (by decide) q492 q504 ?_
        exact hX N q _ hN ((hs2 _ (by decide)).trans (by rw [e7]; exact cI_t (by decide)))
      · refine r_swIn (pc := 1) 96 dX4_says_1 (by decide) (by decide) rfl rfl ?_
        subst h1
        refine r_aload_n (pc := 96) dX4_says_96 rfl ?_
        refine r_getR (pc := 97) dX4_says_97 fl_X4_9_4 (hx.1.2.2.2.2.2.2.2.2.2 (Int32.toNatClampNeg xs) (vp_in_lt (vp_sh hxs))).2 (fun _ _ => rfl) hr ?_
        refine r_ifnonnull (pc := 100) 107 dX4_says_100 rfl ?_
        refine r_aload_n (pc := 107) dX4_says_107 rfl ?_
        refine r_getR (pc := 108) dX4_says_108 fl_X4_9_4 (hx.1.2.2.2.2.2.2.2.2.2 (Int32.toNatClampNeg xs) (vp_in_lt (vp_sh hxs))).2 (fun _ _ => rfl) hr ?_
        refine r_castX (pc := 111) (RX13, TX13, 3) _ dX4_says_111 hK7 rfl q672 nc_26 (by decide) (by decide) (Nat.le_of_ble_eq_true rfl) (Nat.le_of_ble_eq_true rfl) (Nat.le_of_ble_eq_true rfl) (Nat.le_of_ble_eq_true rfl) (fun N q hN => ?_)
        refine t_catch [] _ _ _ rfl (fun z hz => absurd hz List.not_mem_nil) rfl (by decide) q492 q504 ?_
        exact hX N q _ hN ((hs2 _ (by decide)).trans (by rw [e7]; exact cI_t (by decide)))
      · refine r_swIn (pc := 1) 127 dX4_says_1 (by decide) (by decide) rfl rfl ?_
        subst h1
        refine r_aload_n (pc := 127) dX4_says_127 rfl ?_
        refine r_getR (pc := 128) dX4_says_128 fl_X4_9_4 (hx.1.2.2.2.2.2.2.2.2.2 (Int32.toNatClampNeg xs) (vp_in_lt (vp_sh hxs))).2 (fun _ _ => rfl) hr ?_
        refine r_ifnonnull (pc := 131) 138 dX4_says_131 rfl ?_
        refine r_aload_n (pc := 138) dX4_says_138 rfl ?_
        refine r_getR (pc := 139) dX4_says_139 fl_X4_9_4 (hx.1.2.2.2.2.2.2.2.2.2 (Int32.toNatClampNeg xs) (vp_in_lt (vp_sh hxs))).2 (fun _ _ => rfl) hr ?_
        refine r_castX (pc := 142) (RX13, TX13, 3) _ dX4_says_142 hK7 rfl q674 nc_36 (by decide) (by decide) (Nat.le_of_ble_eq_true rfl) (Nat.le_of_ble_eq_true rfl) (Nat.le_of_ble_eq_true rfl) (Nat.le_of_ble_eq_true rfl) (fun N q hN => ?_)
        refine t_catch [] _ _ _ rfl (fun z hz => absurd hz List.not_mem_nil) rfl (by decide) q492 q504 ?_
        exact hX N q _ hN ((hs2 _ (by decide)).trans (by rw [e7]; exact cI_t (by decide)))
      · refine r_swIn (pc := 1) 153 dX4_says_1 (by decide) (by decide) rfl rfl ?_
        subst h1
        refine r_aload_n (pc := 153) dX4_says_153 rfl ?_
        refine r_getR (pc := 154) dX4_says_154 fl_X4_9_4 (hx.1.2.2.2.2.2.2.2.2.2 (Int32.toNatClampNeg xs) (vp_in_lt (vp_sh hxs))).2 (fun _ _ => rfl) hr ?_
        refine r_ifnonnull (pc := 157) 164 dX4_says_157 rfl ?_
        refine r_aload_n (pc := 164) dX4_says_164 rfl ?_
        refine r_getR (pc := 165) dX4_says_165 fl_X4_9_4 (hx.1.2.2.2.2.2.2.2.2.2 (Int32.toNatClampNeg xs) (vp_in_lt (vp_sh hxs))).2 (fun _ _ => rfl) hr ?_
        refine r_castX (pc := 168) (RX13, TX13, 3) _ dX4_says_168 hK7 rfl q679 nc_46 (by decide) (by decide) (Nat.le_of_ble_eq_true rfl) (Nat.le_of_ble_eq_true rfl) (Nat.le_of_ble_eq_true rfl) (Nat.le_of_ble_eq_true rfl) (fun N q hN => ?_)
        refine t_catch [] _ _ _ rfl (fun z hz => absurd hz List.not_mem_nil) rfl (by decide) q492 q504 ?_
        exact hX N q _ hN ((hs2 _ (by decide)).trans (by rw [e7]; exact cI_t (by decide)))
      · refine r_swIn (pc := 1) 178 dX4_says_1 (by decide) (by decide) rfl rfl ?_
        subst h1
        refine r_aload_n (pc := 178) dX4_says_178 rfl ?_
        refine r_getR (pc := 179) dX4_says_179 fl_X4_9_4 (hx.1.2.2.2.2.2.2.2.2.2 (Int32.toNatClampNeg xs) (vp_in_lt (vp_sh hxs))).2 (fun _ _ => rfl) hr ?_
        refine r_ifnonnull (pc := 182) 189 dX4_says_182 rfl ?_
        refine r_aload_n (pc := 189) dX4_says_189 rfl ?_
        refine r_getR (pc := 190) dX4_says_190 fl_X4_9_4 (hx.1.2.2.2.2.2.2.2.2.2 (Int32.toNatClampNeg xs) (vp_in_lt (vp_sh hxs))).2 (fun _ _ => rfl) hr ?_
        refine r_castX (pc := 193) (RX13, TX13, 3) _ dX4_says_193 hK7 rfl q684 nc_56 (by decide) (by decide) (Nat.le_of_ble_eq_true rfl) (Nat.le_of_ble_eq_true rfl) (Nat.le_of_ble_eq_true rfl) (Nat.le_of_ble_eq_true rfl) (fun N q hN => ?_)
        refine t_catch [] _ _ _ rfl (fun z hz => absurd hz List.not_mem_nil) rfl (by decide) q492 q504 ?_
        exact hX N q _ hN ((hs2 _ (by decide)).trans (by rw [e7]; exact cI_t (by decide)))
      · have hx0 : x1 = 0 := say_0 hx1 h1
        refine r_swOut (pc := 1) 203 dX4_says_1 h1 rfl ?_
        refine r_aload_n (pc := 203) dX4_says_203 rfl ?_
        refine r_getR (pc := 204) dX4_says_204 fl_X4_9_4 (hx.1.2.2.2.2.2.2.2.2.2 (Int32.toNatClampNeg xs) (vp_in_lt (vp_sh hxs))).2 (fun _ _ => rfl) hr ?_
        refine r_ifnonnull (pc := 207) 214 dX4_says_207 rfl ?_
        refine r_aload_n (pc := 214) dX4_says_214 rfl ?_
        refine r_getR (pc := 215) dX4_says_215 fl_X4_9_4 (hx.1.2.2.2.2.2.2.2.2.2 (Int32.toNatClampNeg xs) (vp_in_lt (vp_sh hxs))).2 (fun _ _ => rfl) hr ?_
        refine r_castY (pc := 218) (RX13, TX13, 3) _ dX4_says_218 hK7 rfl q534 q1951 ?_
        refine r_o1 (pc := 221) (bc' := 4) (bs' := 957) (ct_X12_said_13 hK7) k_X4_63_13 dX4_says_221 hK7 (Nat.le_of_ble_eq_true rfl) ⟨Nat.le_of_ble_eq_true rfl, Nat.le_of_ble_eq_true rfl⟩ ⟨Nat.le_of_ble_eq_true rfl, Nat.le_of_ble_eq_true rfl⟩ (r_ci fun r221 M221 p221 => ?_) nox
        obtain ⟨rfl, p221⟩ := p221
        have p221 := Eq.symm (show _ = _ from p221)
        subst p221
        refine r_eqi (S.1 12 t) hT.2.2.2.1 ?_
        refine r_istore3 (pc := 224) dX4_says_224 rfl ?_
        exact hE _ ((hs2 _ hx1).trans (by rw [cI_f (fun h => h.1 hx0), cI_t hx0]))
    · have hK7 := hT.k (k := 2) e7 (c := 14) rfl
      refine r_iload_n (pc := 0) dX4_says_0 rfl ?_
      refine r_sp_1_6 (fun h1 => ?_) (fun h1 => ?_) (fun h1 => ?_) (fun h1 => ?_) (fun h1 => ?_) (fun h1 => ?_) (fun h1 => ?_)
      · refine r_swIn (pc := 1) 40 dX4_says_1 (by decide) (by decide) rfl rfl ?_
        subst h1
        refine r_aload_n (pc := 40) dX4_says_40 rfl ?_
        refine r_getR (pc := 41) dX4_says_41 fl_X4_9_4 (hx.1.2.2.2.2.2.2.2.2.2 (Int32.toNatClampNeg xs) (vp_in_lt (vp_sh hxs))).2 (fun _ _ => rfl) hr ?_
        refine r_ifnonnull (pc := 44) 51 dX4_says_44 rfl ?_
        refine r_aload_n (pc := 51) dX4_says_51 rfl ?_
        refine r_getR (pc := 52) dX4_says_52 fl_X4_9_4 (hx.1.2.2.2.2.2.2.2.2.2 (Int32.toNatClampNeg xs) (vp_in_lt (vp_sh hxs))).2 (fun _ _ => rfl) hr ?_
        refine r_castX (pc := 55) (RX14, TX14, 3) _ dX4_says_55 hK7 rfl q614 nc_9 (by decide) (by decide) (Nat.le_of_ble_eq_true rfl) (Nat.le_of_ble_eq_true rfl) (Nat.le_of_ble_eq_true rfl) (Nat.le_of_ble_eq_true rfl) (fun N q hN => ?_)
        refine t_catch [] _ _ _ rfl (fun z hz => absurd hz List.not_mem_nil) rfl (by decide) q492 q504 ?_
        exact hX N q _ hN ((hs2 _ (by decide)).trans (by rw [e7]; exact cI_t (by decide)))
      · refine r_swIn (pc := 1) 65 dX4_says_1 (by decide) (by decide) rfl rfl ?_
        subst h1
        refine r_aload_n (pc := 65) dX4_says_65 rfl ?_
        refine r_getR (pc := 66) dX4_says_66 fl_X4_9_4 (hx.1.2.2.2.2.2.2.2.2.2 (Int32.toNatClampNeg xs) (vp_in_lt (vp_sh hxs))).2 (fun _ _ => rfl) hr ?_
        refine r_ifnonnull (pc := 69) 76 dX4_says_69 rfl ?_
        refine r_aload_n (pc := 76) dX4_says_76 rfl ?_
        refine r_getR (pc := 77) dX4_says_77 fl_X4_9_4 (hx.1.2.2.2.2.2.2.2.2.2 (Int32.toNatClampNeg xs) (vp_in_lt (vp_sh hxs))).2 (fun _ _ => rfl) hr ?_
        refine r_castE (pc := 80) (RX14, TX14, 3) dX4_says_80 hK7 rfl q622 ?_
        refine r_bipush (pc := 83) (v := 9) dX4_says_83 (by decide) ?_
        refine r_aload_n (pc := 85) dX4_says_85 rfl ?_
        refine r_getIe (pc := 86) (v := S.1 6 0) dX4_says_86 fl_X4_38_3 hx.2.2.1.2.2.k (fun _ _ => rfl) hx.2.2.1.2.2.i3 ?_
        refine r_o3 (pc := 89) (bc' := 4) (bs' := 957) (ct_X14_far_14 9 _ hK7 hdv.1) k_X4_44_14 dX4_says_89 hK7 (Nat.le_of_ble_eq_true rfl) ⟨Nat.le_of_ble_eq_true rfl, Nat.le_of_ble_eq_true rfl⟩ ⟨Nat.le_of_ble_eq_true rfl, Nat.le_of_ble_eq_true rfl⟩ (r_ci fun r89 M89 p89 => ?_) nox
        obtain ⟨rfl, p89⟩ := p89
        have p89 := Eq.symm (show _ = _ from p89)
        subst p89
        refine r_eqi (farBS S.1 9 t) (by unfold farBS; rw [e7, fr_14, hT.2.2.2.1, hT.2.2.2.2]) ?_
        refine r_istore3 (pc := 92) dX4_says_92 rfl ?_
        refine r_goto (pc := 93) 225 dX4_says_93 rfl ?_
        exact hE _ ((hs2 _ (by decide)).trans (by rw [e7]; rw [cI_f (by decide), cI_f (by decide), cI_f (by decide), cI_t (by decide)]))
      · refine r_swIn (pc := 1) 96 dX4_says_1 (by decide) (by decide) rfl rfl ?_
        subst h1
        refine r_aload_n (pc := 96) dX4_says_96 rfl ?_
        refine r_getR (pc := 97) dX4_says_97 fl_X4_9_4 (hx.1.2.2.2.2.2.2.2.2.2 (Int32.toNatClampNeg xs) (vp_in_lt (vp_sh hxs))).2 (fun _ _ => rfl) hr ?_
        refine r_ifnonnull (pc := 100) 107 dX4_says_100 rfl ?_
        refine r_aload_n (pc := 107) dX4_says_107 rfl ?_
        refine r_getR (pc := 108) dX4_says_108 fl_X4_9_4 (hx.1.2.2.2.2.2.2.2.2.2 (Int32.toNatClampNeg xs) (vp_in_lt (vp_sh hxs))).2 (fun _ _ => rfl) hr ?_
        refine r_castX (pc := 111) (RX14, TX14, 3) _ dX4_says_111 hK7 rfl q672 nc_27 (by decide) (by decide) (Nat.le_of_ble_eq_true rfl) (Nat.le_of_ble_eq_true rfl) (Nat.le_of_ble_eq_true rfl) (Nat.le_of_ble_eq_true rfl) (fun N q hN => ?_)
        refine t_catch [] _ _ _ rfl (fun z hz => absurd hz List.not_mem_nil) rfl (by decide) q492 q504 ?_
        exact hX N q _ hN ((hs2 _ (by decide)).trans (by rw [e7]; exact cI_t (by decide)))
      · refine r_swIn (pc := 1) 127 dX4_says_1 (by decide) (by decide) rfl rfl ?_
        subst h1
        refine r_aload_n (pc := 127) dX4_says_127 rfl ?_
        refine r_getR (pc := 128) dX4_says_128 fl_X4_9_4 (hx.1.2.2.2.2.2.2.2.2.2 (Int32.toNatClampNeg xs) (vp_in_lt (vp_sh hxs))).2 (fun _ _ => rfl) hr ?_
        refine r_ifnonnull (pc := 131) 138 dX4_says_131 rfl ?_
        refine r_aload_n (pc := 138) dX4_says_138 rfl ?_
        refine r_getR (pc := 139) dX4_says_139 fl_X4_9_4 (hx.1.2.2.2.2.2.2.2.2.2 (Int32.toNatClampNeg xs) (vp_in_lt (vp_sh hxs))).2 (fun _ _ => rfl) hr ?_
        refine r_castX (pc := 142) (RX14, TX14, 3) _ dX4_says_142 hK7 rfl q674 nc_37 (by decide) (by decide) (Nat.le_of_ble_eq_true rfl) (Nat.le_of_ble_eq_true rfl) (Nat.le_of_ble_eq_true rfl) (Nat.le_of_ble_eq_true rfl) (fun N q hN => ?_)
        refine t_catch [] _ _ _ rfl (fun z hz => absurd hz List.not_mem_nil) rfl (by decide) q492 q504 ?_
        exact hX N q _ hN ((hs2 _ (by decide)).trans (by rw [e7]; exact cI_t (by decide)))
      · refine r_swIn (pc := 1) 153 dX4_says_1 (by decide) (by decide) rfl rfl ?_
        subst h1
        refine r_aload_n (pc := 153) dX4_says_153 rfl ?_
        refine r_getR (pc := 154) dX4_says_154 fl_X4_9_4 (hx.1.2.2.2.2.2.2.2.2.2 (Int32.toNatClampNeg xs) (vp_in_lt (vp_sh hxs))).2 (fun _ _ => rfl) hr ?_
        refine r_ifnonnull (pc := 157) 164 dX4_says_157 rfl ?_
        refine r_aload_n (pc := 164) dX4_says_164 rfl ?_
        refine r_getR (pc := 165) dX4_says_165 fl_X4_9_4 (hx.1.2.2.2.2.2.2.2.2.2 (Int32.toNatClampNeg xs) (vp_in_lt (vp_sh hxs))).2 (fun _ _ => rfl) hr ?_
        refine r_castX (pc := 168) (RX14, TX14, 3) _ dX4_says_168 hK7 rfl q679 nc_47 (by decide) (by decide) (Nat.le_of_ble_eq_true rfl) (Nat.le_of_ble_eq_true rfl) (Nat.le_of_ble_eq_true rfl) (Nat.le_of_ble_eq_true rfl) (fun N q hN => ?_)
        refine t_catch [] _ _ _ rfl (fun z hz => absurd hz List.not_mem_nil) rfl (by decide) q492 q504 ?_
        exact hX N q _ hN ((hs2 _ (by decide)).trans (by rw [e7]; exact cI_t (by decide)))
      · refine r_swIn (pc := 1) 178 dX4_says_1 (by decide) (by decide) rfl rfl ?_
        subst h1
        refine r_aload_n (pc := 178) dX4_says_178 rfl ?_
        refine r_getR (pc := 179) dX4_says_179 fl_X4_9_4 (hx.1.2.2.2.2.2.2.2.2.2 (Int32.toNatClampNeg xs) (vp_in_lt (vp_sh hxs))).2 (fun _ _ => rfl) hr ?_
        refine r_ifnonnull (pc := 182) 189 dX4_says_182 rfl ?_
        refine r_aload_n (pc := 189) dX4_says_189 rfl ?_
        refine r_getR (pc := 190) dX4_says_190 fl_X4_9_4 (hx.1.2.2.2.2.2.2.2.2.2 (Int32.toNatClampNeg xs) (vp_in_lt (vp_sh hxs))).2 (fun _ _ => rfl) hr ?_
        refine r_castX (pc := 193) (RX14, TX14, 3) _ dX4_says_193 hK7 rfl q684 nc_57 (by decide) (by decide) (Nat.le_of_ble_eq_true rfl) (Nat.le_of_ble_eq_true rfl) (Nat.le_of_ble_eq_true rfl) (Nat.le_of_ble_eq_true rfl) (fun N q hN => ?_)
        refine t_catch [] _ _ _ rfl (fun z hz => absurd hz List.not_mem_nil) rfl (by decide) q492 q504 ?_
        exact hX N q _ hN ((hs2 _ (by decide)).trans (by rw [e7]; exact cI_t (by decide)))
      · have hx0 : x1 = 0 := say_0 hx1 h1
        refine r_swOut (pc := 1) 203 dX4_says_1 h1 rfl ?_
        refine r_aload_n (pc := 203) dX4_says_203 rfl ?_
        refine r_getR (pc := 204) dX4_says_204 fl_X4_9_4 (hx.1.2.2.2.2.2.2.2.2.2 (Int32.toNatClampNeg xs) (vp_in_lt (vp_sh hxs))).2 (fun _ _ => rfl) hr ?_
        refine r_ifnonnull (pc := 207) 214 dX4_says_207 rfl ?_
        refine r_aload_n (pc := 214) dX4_says_214 rfl ?_
        refine r_getR (pc := 215) dX4_says_215 fl_X4_9_4 (hx.1.2.2.2.2.2.2.2.2.2 (Int32.toNatClampNeg xs) (vp_in_lt (vp_sh hxs))).2 (fun _ _ => rfl) hr ?_
        refine r_castY (pc := 218) (RX14, TX14, 3) _ dX4_says_218 hK7 rfl q534 q1952 ?_
        refine r_o1 (pc := 221) (bc' := 4) (bs' := 957) (ct_X12_said_14 hK7) k_X4_63_14 dX4_says_221 hK7 (Nat.le_of_ble_eq_true rfl) ⟨Nat.le_of_ble_eq_true rfl, Nat.le_of_ble_eq_true rfl⟩ ⟨Nat.le_of_ble_eq_true rfl, Nat.le_of_ble_eq_true rfl⟩ (r_ci fun r221 M221 p221 => ?_) nox
        obtain ⟨rfl, p221⟩ := p221
        have p221 := Eq.symm (show _ = _ from p221)
        subst p221
        refine r_eqi (S.1 12 t) hT.2.2.2.1 ?_
        refine r_istore3 (pc := 224) dX4_says_224 rfl ?_
        exact hE _ ((hs2 _ hx1).trans (by rw [cI_f (fun h => h.1 hx0), cI_t hx0]))
    · have hK7 := hT.k (k := 3) e7 (c := 15) rfl
      refine r_iload_n (pc := 0) dX4_says_0 rfl ?_
      refine r_sp_1_6 (fun h1 => ?_) (fun h1 => ?_) (fun h1 => ?_) (fun h1 => ?_) (fun h1 => ?_) (fun h1 => ?_) (fun h1 => ?_)
      · refine r_swIn (pc := 1) 40 dX4_says_1 (by decide) (by decide) rfl rfl ?_
        subst h1
        refine r_aload_n (pc := 40) dX4_says_40 rfl ?_
        refine r_getR (pc := 41) dX4_says_41 fl_X4_9_4 (hx.1.2.2.2.2.2.2.2.2.2 (Int32.toNatClampNeg xs) (vp_in_lt (vp_sh hxs))).2 (fun _ _ => rfl) hr ?_
        refine r_ifnonnull (pc := 44) 51 dX4_says_44 rfl ?_
        refine r_aload_n (pc := 51) dX4_says_51 rfl ?_
        refine r_getR (pc := 52) dX4_says_52 fl_X4_9_4 (hx.1.2.2.2.2.2.2.2.2.2 (Int32.toNatClampNeg xs) (vp_in_lt (vp_sh hxs))).2 (fun _ _ => rfl) hr ?_
        refine r_castX (pc := 55) (RX15, TX15, 3) _ dX4_says_55 hK7 rfl q614 nc_10 (by decide) (by decide) (Nat.le_of_ble_eq_true rfl) (Nat.le_of_ble_eq_true rfl) (Nat.le_of_ble_eq_true rfl) (Nat.le_of_ble_eq_true rfl) (fun N q hN => ?_)
        refine t_catch [] _ _ _ rfl (fun z hz => absurd hz List.not_mem_nil) rfl (by decide) q492 q504 ?_
        exact hX N q _ hN ((hs2 _ (by decide)).trans (by rw [e7]; exact cI_t (by decide)))
      · refine r_swIn (pc := 1) 65 dX4_says_1 (by decide) (by decide) rfl rfl ?_
        subst h1
        refine r_aload_n (pc := 65) dX4_says_65 rfl ?_
        refine r_getR (pc := 66) dX4_says_66 fl_X4_9_4 (hx.1.2.2.2.2.2.2.2.2.2 (Int32.toNatClampNeg xs) (vp_in_lt (vp_sh hxs))).2 (fun _ _ => rfl) hr ?_
        refine r_ifnonnull (pc := 69) 76 dX4_says_69 rfl ?_
        refine r_aload_n (pc := 76) dX4_says_76 rfl ?_
        refine r_getR (pc := 77) dX4_says_77 fl_X4_9_4 (hx.1.2.2.2.2.2.2.2.2.2 (Int32.toNatClampNeg xs) (vp_in_lt (vp_sh hxs))).2 (fun _ _ => rfl) hr ?_
        refine r_castY (pc := 80) (RX15, TX15, 3) _ dX4_says_80 hK7 rfl q622 q1957 ?_
        refine r_bipush (pc := 83) (v := 9) dX4_says_83 (by decide) ?_
        refine r_aload_n (pc := 85) dX4_says_85 rfl ?_
        refine r_getIe (pc := 86) (v := S.1 6 0) dX4_says_86 fl_X4_38_3 hx.2.2.1.2.2.k (fun _ _ => rfl) hx.2.2.1.2.2.i3 ?_
        refine r_o3 (pc := 89) (bc' := 4) (bs' := 957) (ct_X15_far_15 9 _ hK7 hdv.1) k_X4_44_15 dX4_says_89 hK7 (Nat.le_of_ble_eq_true rfl) ⟨Nat.le_of_ble_eq_true rfl, Nat.le_of_ble_eq_true rfl⟩ ⟨Nat.le_of_ble_eq_true rfl, Nat.le_of_ble_eq_true rfl⟩ (r_ci fun r89 M89 p89 => ?_) nox
        obtain ⟨rfl, p89⟩ := p89
        have p89 := Eq.symm (show _ = _ from p89)
        subst p89
        refine r_eqi (farBS S.1 9 t) (by unfold farBS; rw [e7, fr_15, hT.2.2.2.1, hT.2.2.2.2]) ?_
        refine r_istore3 (pc := 92) dX4_says_92 rfl ?_
        refine r_goto (pc := 93) 225 dX4_says_93 rfl ?_
        exact hE _ ((hs2 _ (by decide)).trans (by rw [e7]; rw [cI_f (by decide), cI_f (by decide), cI_f (by decide), cI_t (by decide)]))
      · refine r_swIn (pc := 1) 96 dX4_says_1 (by decide) (by decide) rfl rfl ?_
        subst h1
        refine r_aload_n (pc := 96) dX4_says_96 rfl ?_
        refine r_getR (pc := 97) dX4_says_97 fl_X4_9_4 (hx.1.2.2.2.2.2.2.2.2.2 (Int32.toNatClampNeg xs) (vp_in_lt (vp_sh hxs))).2 (fun _ _ => rfl) hr ?_
        refine r_ifnonnull (pc := 100) 107 dX4_says_100 rfl ?_
        refine r_aload_n (pc := 107) dX4_says_107 rfl ?_
        refine r_getR (pc := 108) dX4_says_108 fl_X4_9_4 (hx.1.2.2.2.2.2.2.2.2.2 (Int32.toNatClampNeg xs) (vp_in_lt (vp_sh hxs))).2 (fun _ _ => rfl) hr ?_
        refine r_castE (pc := 111) (RX15, TX15, 3) dX4_says_111 hK7 rfl q672 ?_
        refine r_bipush (pc := 114) (v := 9) dX4_says_114 (by decide) ?_
        refine r_aload_n (pc := 116) dX4_says_116 rfl ?_
        refine r_getIe (pc := 117) (v := S.1 6 0) dX4_says_117 fl_X4_38_3 hx.2.2.1.2.2.k (fun _ _ => rfl) hx.2.2.1.2.2.i3 ?_
        refine r_o3 (pc := 120) (bc' := 4) (bs' := 957) (ct_X15_far_15 9 _ hK7 hdv.1) k_X4_50_15 dX4_says_120 hK7 (Nat.le_of_ble_eq_true rfl) ⟨Nat.le_of_ble_eq_true rfl, Nat.le_of_ble_eq_true rfl⟩ ⟨Nat.le_of_ble_eq_true rfl, Nat.le_of_ble_eq_true rfl⟩ (r_ci fun r120 M120 p120 => ?_) nox
        obtain ⟨rfl, p120⟩ := p120
        have p120 := Eq.symm (show _ = _ from p120)
        subst p120
        refine r_eqi (farBS S.1 9 t) (by unfold farBS; rw [e7, fr_15, hT.2.2.2.1, hT.2.2.2.2]) ?_
        refine r_istore3 (pc := 123) dX4_says_123 rfl ?_
        refine r_goto (pc := 124) 225 dX4_says_124 rfl ?_
        exact hE _ ((hs2 _ (by decide)).trans (by rw [e7]; rw [cI_f (by decide), cI_f (by decide), cI_f (by decide), cI_t (by decide)]))
      · refine r_swIn (pc := 1) 127 dX4_says_1 (by decide) (by decide) rfl rfl ?_
        subst h1
        refine r_aload_n (pc := 127) dX4_says_127 rfl ?_
        refine r_getR (pc := 128) dX4_says_128 fl_X4_9_4 (hx.1.2.2.2.2.2.2.2.2.2 (Int32.toNatClampNeg xs) (vp_in_lt (vp_sh hxs))).2 (fun _ _ => rfl) hr ?_
        refine r_ifnonnull (pc := 131) 138 dX4_says_131 rfl ?_
        refine r_aload_n (pc := 138) dX4_says_138 rfl ?_
        refine r_getR (pc := 139) dX4_says_139 fl_X4_9_4 (hx.1.2.2.2.2.2.2.2.2.2 (Int32.toNatClampNeg xs) (vp_in_lt (vp_sh hxs))).2 (fun _ _ => rfl) hr ?_
        refine r_castX (pc := 142) (RX15, TX15, 3) _ dX4_says_142 hK7 rfl q674 nc_38 (by decide) (by decide) (Nat.le_of_ble_eq_true rfl) (Nat.le_of_ble_eq_true rfl) (Nat.le_of_ble_eq_true rfl) (Nat.le_of_ble_eq_true rfl) (fun N q hN => ?_)
        refine t_catch [] _ _ _ rfl (fun z hz => absurd hz List.not_mem_nil) rfl (by decide) q492 q504 ?_
        exact hX N q _ hN ((hs2 _ (by decide)).trans (by rw [e7]; exact cI_t (by decide)))
      · refine r_swIn (pc := 1) 153 dX4_says_1 (by decide) (by decide) rfl rfl ?_
        subst h1
        refine r_aload_n (pc := 153) dX4_says_153 rfl ?_
        refine r_getR (pc := 154) dX4_says_154 fl_X4_9_4 (hx.1.2.2.2.2.2.2.2.2.2 (Int32.toNatClampNeg xs) (vp_in_lt (vp_sh hxs))).2 (fun _ _ => rfl) hr ?_
        refine r_ifnonnull (pc := 157) 164 dX4_says_157 rfl ?_
        refine r_aload_n (pc := 164) dX4_says_164 rfl ?_
        refine r_getR (pc := 165) dX4_says_165 fl_X4_9_4 (hx.1.2.2.2.2.2.2.2.2.2 (Int32.toNatClampNeg xs) (vp_in_lt (vp_sh hxs))).2 (fun _ _ => rfl) hr ?_
        refine r_castX (pc := 168) (RX15, TX15, 3) _ dX4_says_168 hK7 rfl q679 nc_48 (by decide) (by decide) (Nat.le_of_ble_eq_true rfl) (Nat.le_of_ble_eq_true rfl) (Nat.le_of_ble_eq_true rfl) (Nat.le_of_ble_eq_true rfl) (fun N q hN => ?_)
        refine t_catch [] _ _ _ rfl (fun z hz => absurd hz List.not_mem_nil) rfl (by decide) q492 q504 ?_
        exact hX N q _ hN ((hs2 _ (by decide)).trans (by rw [e7]; exact cI_t (by decide)))
      · refine r_swIn (pc := 1) 178 dX4_says_1 (by decide) (by decide) rfl rfl ?_
        subst h1
        refine r_aload_n (pc := 178) dX4_says_178 rfl ?_
        refine r_getR (pc := 179) dX4_says_179 fl_X4_9_4 (hx.1.2.2.2.2.2.2.2.2.2 (Int32.toNatClampNeg xs) (vp_in_lt (vp_sh hxs))).2 (fun _ _ => rfl) hr ?_
        refine r_ifnonnull (pc := 182) 189 dX4_says_182 rfl ?_
        refine r_aload_n (pc := 189) dX4_says_189 rfl ?_
        refine r_getR (pc := 190) dX4_says_190 fl_X4_9_4 (hx.1.2.2.2.2.2.2.2.2.2 (Int32.toNatClampNeg xs) (vp_in_lt (vp_sh hxs))).2 (fun _ _ => rfl) hr ?_
        refine r_castX (pc := 193) (RX15, TX15, 3) _ dX4_says_193 hK7 rfl q684 nc_58 (by decide) (by decide) (Nat.le_of_ble_eq_true rfl) (Nat.le_of_ble_eq_true rfl) (Nat.le_of_ble_eq_true rfl) (Nat.le_of_ble_eq_true rfl) (fun N q hN => ?_)
        refine t_catch [] _ _ _ rfl (fun z hz => absurd hz List.not_mem_nil) rfl (by decide) q492 q504 ?_
        exact hX N q _ hN ((hs2 _ (by decide)).trans (by rw [e7]; exact cI_t (by decide)))
      · have hx0 : x1 = 0 := say_0 hx1 h1
        refine r_swOut (pc := 1) 203 dX4_says_1 h1 rfl ?_
        refine r_aload_n (pc := 203) dX4_says_203 rfl ?_
        refine r_getR (pc := 204) dX4_says_204 fl_X4_9_4 (hx.1.2.2.2.2.2.2.2.2.2 (Int32.toNatClampNeg xs) (vp_in_lt (vp_sh hxs))).2 (fun _ _ => rfl) hr ?_
        refine r_ifnonnull (pc := 207) 214 dX4_says_207 rfl ?_
        refine r_aload_n (pc := 214) dX4_says_214 rfl ?_
        refine r_getR (pc := 215) dX4_says_215 fl_X4_9_4 (hx.1.2.2.2.2.2.2.2.2.2 (Int32.toNatClampNeg xs) (vp_in_lt (vp_sh hxs))).2 (fun _ _ => rfl) hr ?_
        refine r_castY (pc := 218) (RX15, TX15, 3) _ dX4_says_218 hK7 rfl q534 q1949 ?_
        refine r_o1 (pc := 221) (bc' := 4) (bs' := 957) (ct_X12_said_15 hK7) k_X4_63_15 dX4_says_221 hK7 (Nat.le_of_ble_eq_true rfl) ⟨Nat.le_of_ble_eq_true rfl, Nat.le_of_ble_eq_true rfl⟩ ⟨Nat.le_of_ble_eq_true rfl, Nat.le_of_ble_eq_true rfl⟩ (r_ci fun r221 M221 p221 => ?_) nox
        obtain ⟨rfl, p221⟩ := p221
        have p221 := Eq.symm (show _ = _ from p221)
        subst p221
        refine r_eqi (S.1 12 t) hT.2.2.2.1 ?_
        refine r_istore3 (pc := 224) dX4_says_224 rfl ?_
        exact hE _ ((hs2 _ hx1).trans (by rw [cI_f (fun h => h.1 hx0), cI_t hx0]))
    · have hK7 := hT.k (k := 4) e7 (c := 16) rfl
      refine r_iload_n (pc := 0) dX4_says_0 rfl ?_
      refine r_sp_1_6 (fun h1 => ?_) (fun h1 => ?_) (fun h1 => ?_) (fun h1 => ?_) (fun h1 => ?_) (fun h1 => ?_) (fun h1 => ?_)
      · refine r_swIn (pc := 1) 40 dX4_says_1 (by decide) (by decide) rfl rfl ?_
        subst h1
        refine r_aload_n (pc := 40) dX4_says_40 rfl ?_
        refine r_getR (pc := 41) dX4_says_41 fl_X4_9_4 (hx.1.2.2.2.2.2.2.2.2.2 (Int32.toNatClampNeg xs) (vp_in_lt (vp_sh hxs))).2 (fun _ _ => rfl) hr ?_
        refine r_ifnonnull (pc := 44) 51 dX4_says_44 rfl ?_
        refine r_aload_n (pc := 51) dX4_says_51 rfl ?_
        refine r_getR (pc := 52) dX4_says_52 fl_X4_9_4 (hx.1.2.2.2.2.2.2.2.2.2 (Int32.toNatClampNeg xs) (vp_in_lt (vp_sh hxs))).2 (fun _ _ => rfl) hr ?_
        refine r_castX (pc := 55) (RX16, TX16, 3) _ dX4_says_55 hK7 rfl q614 nc_11 (by decide) (by decide) (Nat.le_of_ble_eq_true rfl) (Nat.le_of_ble_eq_true rfl) (Nat.le_of_ble_eq_true rfl) (Nat.le_of_ble_eq_true rfl) (fun N q hN => ?_)
        refine t_catch [] _ _ _ rfl (fun z hz => absurd hz List.not_mem_nil) rfl (by decide) q492 q504 ?_
        exact hX N q _ hN ((hs2 _ (by decide)).trans (by rw [e7]; exact cI_t (by decide)))
      · refine r_swIn (pc := 1) 65 dX4_says_1 (by decide) (by decide) rfl rfl ?_
        subst h1
        refine r_aload_n (pc := 65) dX4_says_65 rfl ?_
        refine r_getR (pc := 66) dX4_says_66 fl_X4_9_4 (hx.1.2.2.2.2.2.2.2.2.2 (Int32.toNatClampNeg xs) (vp_in_lt (vp_sh hxs))).2 (fun _ _ => rfl) hr ?_
        refine r_ifnonnull (pc := 69) 76 dX4_says_69 rfl ?_
        refine r_aload_n (pc := 76) dX4_says_76 rfl ?_
        refine r_getR (pc := 77) dX4_says_77 fl_X4_9_4 (hx.1.2.2.2.2.2.2.2.2.2 (Int32.toNatClampNeg xs) (vp_in_lt (vp_sh hxs))).2 (fun _ _ => rfl) hr ?_
        refine r_castX (pc := 80) (RX16, TX16, 3) _ dX4_says_80 hK7 rfl q622 nc_18 (by decide) (by decide) (Nat.le_of_ble_eq_true rfl) (Nat.le_of_ble_eq_true rfl) (Nat.le_of_ble_eq_true rfl) (Nat.le_of_ble_eq_true rfl) (fun N q hN => ?_)
        refine t_catch [] _ _ _ rfl (fun z hz => absurd hz List.not_mem_nil) rfl (by decide) q492 q504 ?_
        exact hX N q _ hN ((hs2 _ (by decide)).trans (by rw [e7]; exact cI_t (by decide)))
      · refine r_swIn (pc := 1) 96 dX4_says_1 (by decide) (by decide) rfl rfl ?_
        subst h1
        refine r_aload_n (pc := 96) dX4_says_96 rfl ?_
        refine r_getR (pc := 97) dX4_says_97 fl_X4_9_4 (hx.1.2.2.2.2.2.2.2.2.2 (Int32.toNatClampNeg xs) (vp_in_lt (vp_sh hxs))).2 (fun _ _ => rfl) hr ?_
        refine r_ifnonnull (pc := 100) 107 dX4_says_100 rfl ?_
        refine r_aload_n (pc := 107) dX4_says_107 rfl ?_
        refine r_getR (pc := 108) dX4_says_108 fl_X4_9_4 (hx.1.2.2.2.2.2.2.2.2.2 (Int32.toNatClampNeg xs) (vp_in_lt (vp_sh hxs))).2 (fun _ _ => rfl) hr ?_
        refine r_castX (pc := 111) (RX16, TX16, 3) _ dX4_says_111 hK7 rfl q672 nc_28 (by decide) (by decide) (Nat.le_of_ble_eq_true rfl) (Nat.le_of_ble_eq_true rfl) (Nat.le_of_ble_eq_true rfl) (Nat.le_of_ble_eq_true rfl) (fun N q hN => ?_)
        refine t_catch [] _ _ _ rfl (fun z hz => absurd hz List.not_mem_nil) rfl (by decide) q492 q504 ?_
        exact hX N q _ hN ((hs2 _ (by decide)).trans (by rw [e7]; exact cI_t (by decide)))
      · refine r_swIn (pc := 1) 127 dX4_says_1 (by decide) (by decide) rfl rfl ?_
        subst h1
        refine r_aload_n (pc := 127) dX4_says_127 rfl ?_
        refine r_getR (pc := 128) dX4_says_128 fl_X4_9_4 (hx.1.2.2.2.2.2.2.2.2.2 (Int32.toNatClampNeg xs) (vp_in_lt (vp_sh hxs))).2 (fun _ _ => rfl) hr ?_
        refine r_ifnonnull (pc := 131) 138 dX4_says_131 rfl ?_
        refine r_aload_n (pc := 138) dX4_says_138 rfl ?_
        refine r_getR (pc := 139) dX4_says_139 fl_X4_9_4 (hx.1.2.2.2.2.2.2.2.2.2 (Int32.toNatClampNeg xs) (vp_in_lt (vp_sh hxs))).2 (fun _ _ => rfl) hr ?_
        refine r_castE (pc := 142) (RX16, TX16, 3) dX4_says_142 hK7 rfl q674 ?_
        refine r_aload_n (pc := 145) dX4_says_145 rfl ?_
        refine r_o2 (pc := 146) (bc' := 4) (bs' := 957) (ct_X16_broken hx.2.2.1.2.2 hS.1 hK7 htl hT.2.2.1) k_X4_53_16 dX4_says_146 hK7 (Nat.le_of_ble_eq_true rfl) ⟨Nat.le_of_ble_eq_true rfl, Nat.le_of_ble_eq_true rfl⟩ ⟨Nat.le_of_ble_eq_true rfl, Nat.le_of_ble_eq_true rfl⟩ (r_ci fun r146 M146 p146 => ?_) nox
        obtain ⟨rfl, p146⟩ := p146
        have p146 := Eq.symm (show _ = _ from p146)
        subst p146
        refine r_istore3 (pc := 149) dX4_says_149 rfl ?_
        refine r_goto (pc := 150) 225 dX4_says_150 rfl ?_
        exact hE _ ((hs2 _ (by decide)).trans (by rw [e7]; rw [cI_f (by decide), cI_f (by decide), cI_t rfl]))
      · refine r_swIn (pc := 1) 153 dX4_says_1 (by decide) (by decide) rfl rfl ?_
        subst h1
        refine r_aload_n (pc := 153) dX4_says_153 rfl ?_
        refine r_getR (pc := 154) dX4_says_154 fl_X4_9_4 (hx.1.2.2.2.2.2.2.2.2.2 (Int32.toNatClampNeg xs) (vp_in_lt (vp_sh hxs))).2 (fun _ _ => rfl) hr ?_
        refine r_ifnonnull (pc := 157) 164 dX4_says_157 rfl ?_
        refine r_aload_n (pc := 164) dX4_says_164 rfl ?_
        refine r_getR (pc := 165) dX4_says_165 fl_X4_9_4 (hx.1.2.2.2.2.2.2.2.2.2 (Int32.toNatClampNeg xs) (vp_in_lt (vp_sh hxs))).2 (fun _ _ => rfl) hr ?_
        refine r_castX (pc := 168) (RX16, TX16, 3) _ dX4_says_168 hK7 rfl q679 nc_49 (by decide) (by decide) (Nat.le_of_ble_eq_true rfl) (Nat.le_of_ble_eq_true rfl) (Nat.le_of_ble_eq_true rfl) (Nat.le_of_ble_eq_true rfl) (fun N q hN => ?_)
        refine t_catch [] _ _ _ rfl (fun z hz => absurd hz List.not_mem_nil) rfl (by decide) q492 q504 ?_
        exact hX N q _ hN ((hs2 _ (by decide)).trans (by rw [e7]; exact cI_t (by decide)))
      · refine r_swIn (pc := 1) 178 dX4_says_1 (by decide) (by decide) rfl rfl ?_
        subst h1
        refine r_aload_n (pc := 178) dX4_says_178 rfl ?_
        refine r_getR (pc := 179) dX4_says_179 fl_X4_9_4 (hx.1.2.2.2.2.2.2.2.2.2 (Int32.toNatClampNeg xs) (vp_in_lt (vp_sh hxs))).2 (fun _ _ => rfl) hr ?_
        refine r_ifnonnull (pc := 182) 189 dX4_says_182 rfl ?_
        refine r_aload_n (pc := 189) dX4_says_189 rfl ?_
        refine r_getR (pc := 190) dX4_says_190 fl_X4_9_4 (hx.1.2.2.2.2.2.2.2.2.2 (Int32.toNatClampNeg xs) (vp_in_lt (vp_sh hxs))).2 (fun _ _ => rfl) hr ?_
        refine r_castX (pc := 193) (RX16, TX16, 3) _ dX4_says_193 hK7 rfl q684 nc_59 (by decide) (by decide) (Nat.le_of_ble_eq_true rfl) (Nat.le_of_ble_eq_true rfl) (Nat.le_of_ble_eq_true rfl) (Nat.le_of_ble_eq_true rfl) (fun N q hN => ?_)
        refine t_catch [] _ _ _ rfl (fun z hz => absurd hz List.not_mem_nil) rfl (by decide) q492 q504 ?_
        exact hX N q _ hN ((hs2 _ (by decide)).trans (by rw [e7]; exact cI_t (by decide)))
      · have hx0 : x1 = 0 := say_0 hx1 h1
        refine r_swOut (pc := 1) 203 dX4_says_1 h1 rfl ?_
        refine r_aload_n (pc := 203) dX4_says_203 rfl ?_
        refine r_getR (pc := 204) dX4_says_204 fl_X4_9_4 (hx.1.2.2.2.2.2.2.2.2.2 (Int32.toNatClampNeg xs) (vp_in_lt (vp_sh hxs))).2 (fun _ _ => rfl) hr ?_
        refine r_ifnonnull (pc := 207) 214 dX4_says_207 rfl ?_
        refine r_aload_n (pc := 214) dX4_says_214 rfl ?_
        refine r_getR (pc := 215) dX4_says_215 fl_X4_9_4 (hx.1.2.2.2.2.2.2.2.2.2 (Int32.toNatClampNeg xs) (vp_in_lt (vp_sh hxs))).2 (fun _ _ => rfl) hr ?_
        refine r_castY (pc := 218) (RX16, TX16, 3) _ dX4_says_218 hK7 rfl q534 q1950 ?_
        refine r_o1 (pc := 221) (bc' := 4) (bs' := 957) (ct_X12_said_16 hK7) k_X4_63_16 dX4_says_221 hK7 (Nat.le_of_ble_eq_true rfl) ⟨Nat.le_of_ble_eq_true rfl, Nat.le_of_ble_eq_true rfl⟩ ⟨Nat.le_of_ble_eq_true rfl, Nat.le_of_ble_eq_true rfl⟩ (r_ci fun r221 M221 p221 => ?_) nox
        obtain ⟨rfl, p221⟩ := p221
        have p221 := Eq.symm (show _ = _ from p221)
        subst p221
        refine r_eqi (S.1 12 t) hT.2.2.2.1 ?_
        refine r_istore3 (pc := 224) dX4_says_224 rfl ?_
        exact hE _ ((hs2 _ hx1).trans (by rw [cI_f (fun h => h.1 hx0), cI_t hx0]))
    · have hK7 := hT.k (k := 5) e7 (c := 17) rfl
      refine r_iload_n (pc := 0) dX4_says_0 rfl ?_
      refine r_sp_1_6 (fun h1 => ?_) (fun h1 => ?_) (fun h1 => ?_) (fun h1 => ?_) (fun h1 => ?_) (fun h1 => ?_) (fun h1 => ?_)
      · refine r_swIn (pc := 1) 40 dX4_says_1 (by decide) (by decide) rfl rfl ?_
        subst h1
        refine r_aload_n (pc := 40) dX4_says_40 rfl ?_
        refine r_getR (pc := 41) dX4_says_41 fl_X4_9_4 (hx.1.2.2.2.2.2.2.2.2.2 (Int32.toNatClampNeg xs) (vp_in_lt (vp_sh hxs))).2 (fun _ _ => rfl) hr ?_
        refine r_ifnonnull (pc := 44) 51 dX4_says_44 rfl ?_
        refine r_aload_n (pc := 51) dX4_says_51 rfl ?_
        refine r_getR (pc := 52) dX4_says_52 fl_X4_9_4 (hx.1.2.2.2.2.2.2.2.2.2 (Int32.toNatClampNeg xs) (vp_in_lt (vp_sh hxs))).2 (fun _ _ => rfl) hr ?_
        refine r_castY (pc := 55) (RX17, TX17, 3) _ dX4_says_55 hK7 rfl q614 q1955 ?_
        refine r_o1 (pc := 58) (bc' := 4) (bs' := 957) (ct_X13_more_17 hK7) k_X4_32_17 dX4_says_58 hK7 (Nat.le_of_ble_eq_true rfl) ⟨Nat.le_of_ble_eq_true rfl, Nat.le_of_ble_eq_true rfl⟩ ⟨Nat.le_of_ble_eq_true rfl, Nat.le_of_ble_eq_true rfl⟩ (r_ci fun r58 M58 p58 => ?_) nox
        obtain ⟨rfl, p58⟩ := p58
        have p58 := Eq.symm (show _ = _ from p58)
        subst p58
        refine r_eqi (S.1 13 t) hT.2.2.2.2 ?_
        refine r_istore3 (pc := 61) dX4_says_61 rfl ?_
        refine r_goto (pc := 62) 225 dX4_says_62 rfl ?_
        exact hE _ ((hs2 _ (by decide)).trans (by rw [e7]; rw [cI_f (by decide), cI_f (by decide), cI_f (by decide), cI_f (by decide)]))
      · refine r_swIn (pc := 1) 65 dX4_says_1 (by decide) (by decide) rfl rfl ?_
        subst h1
        refine r_aload_n (pc := 65) dX4_says_65 rfl ?_
        refine r_getR (pc := 66) dX4_says_66 fl_X4_9_4 (hx.1.2.2.2.2.2.2.2.2.2 (Int32.toNatClampNeg xs) (vp_in_lt (vp_sh hxs))).2 (fun _ _ => rfl) hr ?_
        refine r_ifnonnull (pc := 69) 76 dX4_says_69 rfl ?_
        refine r_aload_n (pc := 76) dX4_says_76 rfl ?_
        refine r_getR (pc := 77) dX4_says_77 fl_X4_9_4 (hx.1.2.2.2.2.2.2.2.2.2 (Int32.toNatClampNeg xs) (vp_in_lt (vp_sh hxs))).2 (fun _ _ => rfl) hr ?_
        refine r_castX (pc := 80) (RX17, TX17, 3) _ dX4_says_80 hK7 rfl q622 nc_19 (by decide) (by decide) (Nat.le_of_ble_eq_true rfl) (Nat.le_of_ble_eq_true rfl) (Nat.le_of_ble_eq_true rfl) (Nat.le_of_ble_eq_true rfl) (fun N q hN => ?_)
        refine t_catch [] _ _ _ rfl (fun z hz => absurd hz List.not_mem_nil) rfl (by decide) q492 q504 ?_
        exact hX N q _ hN ((hs2 _ (by decide)).trans (by rw [e7]; exact cI_t (by decide)))
      · refine r_swIn (pc := 1) 96 dX4_says_1 (by decide) (by decide) rfl rfl ?_
        subst h1
        refine r_aload_n (pc := 96) dX4_says_96 rfl ?_
        refine r_getR (pc := 97) dX4_says_97 fl_X4_9_4 (hx.1.2.2.2.2.2.2.2.2.2 (Int32.toNatClampNeg xs) (vp_in_lt (vp_sh hxs))).2 (fun _ _ => rfl) hr ?_
        refine r_ifnonnull (pc := 100) 107 dX4_says_100 rfl ?_
        refine r_aload_n (pc := 107) dX4_says_107 rfl ?_
        refine r_getR (pc := 108) dX4_says_108 fl_X4_9_4 (hx.1.2.2.2.2.2.2.2.2.2 (Int32.toNatClampNeg xs) (vp_in_lt (vp_sh hxs))).2 (fun _ _ => rfl) hr ?_
        refine r_castX (pc := 111) (RX17, TX17, 3) _ dX4_says_111 hK7 rfl q672 nc_29 (by decide) (by decide) (Nat.le_of_ble_eq_true rfl) (Nat.le_of_ble_eq_true rfl) (Nat.le_of_ble_eq_true rfl) (Nat.le_of_ble_eq_true rfl) (fun N q hN => ?_)
        refine t_catch [] _ _ _ rfl (fun z hz => absurd hz List.not_mem_nil) rfl (by decide) q492 q504 ?_
        exact hX N q _ hN ((hs2 _ (by decide)).trans (by rw [e7]; exact cI_t (by decide)))
      · refine r_swIn (pc := 1) 127 dX4_says_1 (by decide) (by decide) rfl rfl ?_
        subst h1
        refine r_aload_n (pc := 127) dX4_says_127 rfl ?_
        refine r_getR (pc := 128) dX4_says_128 fl_X4_9_4 (hx.1.2.2.2.2.2.2.2.2.2 (Int32.toNatClampNeg xs) (vp_in_lt (vp_sh hxs))).2 (fun _ _ => rfl) hr ?_
        refine r_ifnonnull (pc := 131) 138 dX4_says_131 rfl ?_
        refine r_aload_n (pc := 138) dX4_says_138 rfl ?_
        refine r_getR (pc := 139) dX4_says_139 fl_X4_9_4 (hx.1.2.2.2.2.2.2.2.2.2 (Int32.toNatClampNeg xs) (vp_in_lt (vp_sh hxs))).2 (fun _ _ => rfl) hr ?_
        refine r_castX (pc := 142) (RX17, TX17, 3) _ dX4_says_142 hK7 rfl q674 nc_39 (by decide) (by decide) (Nat.le_of_ble_eq_true rfl) (Nat.le_of_ble_eq_true rfl) (Nat.le_of_ble_eq_true rfl) (Nat.le_of_ble_eq_true rfl) (fun N q hN => ?_)
        refine t_catch [] _ _ _ rfl (fun z hz => absurd hz List.not_mem_nil) rfl (by decide) q492 q504 ?_
        exact hX N q _ hN ((hs2 _ (by decide)).trans (by rw [e7]; exact cI_t (by decide)))
      · refine r_swIn (pc := 1) 153 dX4_says_1 (by decide) (by decide) rfl rfl ?_
        subst h1
        refine r_aload_n (pc := 153) dX4_says_153 rfl ?_
        refine r_getR (pc := 154) dX4_says_154 fl_X4_9_4 (hx.1.2.2.2.2.2.2.2.2.2 (Int32.toNatClampNeg xs) (vp_in_lt (vp_sh hxs))).2 (fun _ _ => rfl) hr ?_
        refine r_ifnonnull (pc := 157) 164 dX4_says_157 rfl ?_
        refine r_aload_n (pc := 164) dX4_says_164 rfl ?_
        refine r_getR (pc := 165) dX4_says_165 fl_X4_9_4 (hx.1.2.2.2.2.2.2.2.2.2 (Int32.toNatClampNeg xs) (vp_in_lt (vp_sh hxs))).2 (fun _ _ => rfl) hr ?_
        refine r_castE (pc := 168) (RX17, TX17, 3) dX4_says_168 hK7 rfl q679 ?_
        refine r_o1 (pc := 171) (bc' := 4) (bs' := 957) (ct_X13_more_17 hK7) k_X4_59_17 dX4_says_171 hK7 (Nat.le_of_ble_eq_true rfl) ⟨Nat.le_of_ble_eq_true rfl, Nat.le_of_ble_eq_true rfl⟩ ⟨Nat.le_of_ble_eq_true rfl, Nat.le_of_ble_eq_true rfl⟩ (r_ci fun r171 M171 p171 => ?_) nox
        obtain ⟨rfl, p171⟩ := p171
        have p171 := Eq.symm (show _ = _ from p171)
        subst p171
        refine r_eqi (S.1 13 t) hT.2.2.2.2 ?_
        refine r_istore3 (pc := 174) dX4_says_174 rfl ?_
        refine r_goto (pc := 175) 225 dX4_says_175 rfl ?_
        exact hE _ ((hs2 _ (by decide)).trans (by rw [e7]; rw [cI_f (by decide), cI_f (by decide), cI_f (by decide), cI_f (by decide)]))
      · refine r_swIn (pc := 1) 178 dX4_says_1 (by decide) (by decide) rfl rfl ?_
        subst h1
        refine r_aload_n (pc := 178) dX4_says_178 rfl ?_
        refine r_getR (pc := 179) dX4_says_179 fl_X4_9_4 (hx.1.2.2.2.2.2.2.2.2.2 (Int32.toNatClampNeg xs) (vp_in_lt (vp_sh hxs))).2 (fun _ _ => rfl) hr ?_
        refine r_ifnonnull (pc := 182) 189 dX4_says_182 rfl ?_
        refine r_aload_n (pc := 189) dX4_says_189 rfl ?_
        refine r_getR (pc := 190) dX4_says_190 fl_X4_9_4 (hx.1.2.2.2.2.2.2.2.2.2 (Int32.toNatClampNeg xs) (vp_in_lt (vp_sh hxs))).2 (fun _ _ => rfl) hr ?_
        refine r_castX (pc := 193) (RX17, TX17, 3) _ dX4_says_193 hK7 rfl q684 nc_60 (by decide) (by decide) (Nat.le_of_ble_eq_true rfl) (Nat.le_of_ble_eq_true rfl) (Nat.le_of_ble_eq_true rfl) (Nat.le_of_ble_eq_true rfl) (fun N q hN => ?_)
        refine t_catch [] _ _ _ rfl (fun z hz => absurd hz List.not_mem_nil) rfl (by decide) q492 q504 ?_
        exact hX N q _ hN ((hs2 _ (by decide)).trans (by rw [e7]; exact cI_t (by decide)))
      · have hx0 : x1 = 0 := say_0 hx1 h1
        refine r_swOut (pc := 1) 203 dX4_says_1 h1 rfl ?_
        refine r_aload_n (pc := 203) dX4_says_203 rfl ?_
        refine r_getR (pc := 204) dX4_says_204 fl_X4_9_4 (hx.1.2.2.2.2.2.2.2.2.2 (Int32.toNatClampNeg xs) (vp_in_lt (vp_sh hxs))).2 (fun _ _ => rfl) hr ?_
        refine r_ifnonnull (pc := 207) 214 dX4_says_207 rfl ?_
        refine r_aload_n (pc := 214) dX4_says_214 rfl ?_
        refine r_getR (pc := 215) dX4_says_215 fl_X4_9_4 (hx.1.2.2.2.2.2.2.2.2.2 (Int32.toNatClampNeg xs) (vp_in_lt (vp_sh hxs))).2 (fun _ _ => rfl) hr ?_
        refine r_castY (pc := 218) (RX17, TX17, 3) _ dX4_says_218 hK7 rfl q534 q1953 ?_
        refine r_o1 (pc := 221) (bc' := 4) (bs' := 957) (ct_X12_said_17 hK7) k_X4_63_17 dX4_says_221 hK7 (Nat.le_of_ble_eq_true rfl) ⟨Nat.le_of_ble_eq_true rfl, Nat.le_of_ble_eq_true rfl⟩ ⟨Nat.le_of_ble_eq_true rfl, Nat.le_of_ble_eq_true rfl⟩ (r_ci fun r221 M221 p221 => ?_) nox
        obtain ⟨rfl, p221⟩ := p221
        have p221 := Eq.symm (show _ = _ from p221)
        subst p221
        refine r_eqi (S.1 12 t) hT.2.2.2.1 ?_
        refine r_istore3 (pc := 224) dX4_says_224 rfl ?_
        exact hE _ ((hs2 _ hx1).trans (by rw [cI_f (fun h => h.1 hx0), cI_t hx0]))
    · have hK7 := hT.k (k := 6) e7 (c := 18) rfl
      refine r_iload_n (pc := 0) dX4_says_0 rfl ?_
      refine r_sp_1_6 (fun h1 => ?_) (fun h1 => ?_) (fun h1 => ?_) (fun h1 => ?_) (fun h1 => ?_) (fun h1 => ?_) (fun h1 => ?_)
      · refine r_swIn (pc := 1) 40 dX4_says_1 (by decide) (by decide) rfl rfl ?_
        subst h1
        refine r_aload_n (pc := 40) dX4_says_40 rfl ?_
        refine r_getR (pc := 41) dX4_says_41 fl_X4_9_4 (hx.1.2.2.2.2.2.2.2.2.2 (Int32.toNatClampNeg xs) (vp_in_lt (vp_sh hxs))).2 (fun _ _ => rfl) hr ?_
        refine r_ifnonnull (pc := 44) 51 dX4_says_44 rfl ?_
        refine r_aload_n (pc := 51) dX4_says_51 rfl ?_
        refine r_getR (pc := 52) dX4_says_52 fl_X4_9_4 (hx.1.2.2.2.2.2.2.2.2.2 (Int32.toNatClampNeg xs) (vp_in_lt (vp_sh hxs))).2 (fun _ _ => rfl) hr ?_
        refine r_castY (pc := 55) (RX18, TX18, 3) _ dX4_says_55 hK7 rfl q614 q1956 ?_
        refine r_o1 (pc := 58) (bc' := 4) (bs' := 957) (ct_X13_more_18 hK7) k_X4_32_18 dX4_says_58 hK7 (Nat.le_of_ble_eq_true rfl) ⟨Nat.le_of_ble_eq_true rfl, Nat.le_of_ble_eq_true rfl⟩ ⟨Nat.le_of_ble_eq_true rfl, Nat.le_of_ble_eq_true rfl⟩ (r_ci fun r58 M58 p58 => ?_) nox
        obtain ⟨rfl, p58⟩ := p58
        have p58 := Eq.symm (show _ = _ from p58)
        subst p58
        refine r_eqi (S.1 13 t) hT.2.2.2.2 ?_
        refine r_istore3 (pc := 61) dX4_says_61 rfl ?_
        refine r_goto (pc := 62) 225 dX4_says_62 rfl ?_
        exact hE _ ((hs2 _ (by decide)).trans (by rw [e7]; rw [cI_f (by decide), cI_f (by decide), cI_f (by decide), cI_f (by decide)]))
      · refine r_swIn (pc := 1) 65 dX4_says_1 (by decide) (by decide) rfl rfl ?_
        subst h1
        refine r_aload_n (pc := 65) dX4_says_65 rfl ?_
        refine r_getR (pc := 66) dX4_says_66 fl_X4_9_4 (hx.1.2.2.2.2.2.2.2.2.2 (Int32.toNatClampNeg xs) (vp_in_lt (vp_sh hxs))).2 (fun _ _ => rfl) hr ?_
        refine r_ifnonnull (pc := 69) 76 dX4_says_69 rfl ?_
        refine r_aload_n (pc := 76) dX4_says_76 rfl ?_
        refine r_getR (pc := 77) dX4_says_77 fl_X4_9_4 (hx.1.2.2.2.2.2.2.2.2.2 (Int32.toNatClampNeg xs) (vp_in_lt (vp_sh hxs))).2 (fun _ _ => rfl) hr ?_
        refine r_castX (pc := 80) (RX18, TX18, 3) _ dX4_says_80 hK7 rfl q622 nc_20 (by decide) (by decide) (Nat.le_of_ble_eq_true rfl) (Nat.le_of_ble_eq_true rfl) (Nat.le_of_ble_eq_true rfl) (Nat.le_of_ble_eq_true rfl) (fun N q hN => ?_)
        refine t_catch [] _ _ _ rfl (fun z hz => absurd hz List.not_mem_nil) rfl (by decide) q492 q504 ?_
        exact hX N q _ hN ((hs2 _ (by decide)).trans (by rw [e7]; exact cI_t (by decide)))
      · refine r_swIn (pc := 1) 96 dX4_says_1 (by decide) (by decide) rfl rfl ?_
        subst h1
        refine r_aload_n (pc := 96) dX4_says_96 rfl ?_
        refine r_getR (pc := 97) dX4_says_97 fl_X4_9_4 (hx.1.2.2.2.2.2.2.2.2.2 (Int32.toNatClampNeg xs) (vp_in_lt (vp_sh hxs))).2 (fun _ _ => rfl) hr ?_
        refine r_ifnonnull (pc := 100) 107 dX4_says_100 rfl ?_
        refine r_aload_n (pc := 107) dX4_says_107 rfl ?_
        refine r_getR (pc := 108) dX4_says_108 fl_X4_9_4 (hx.1.2.2.2.2.2.2.2.2.2 (Int32.toNatClampNeg xs) (vp_in_lt (vp_sh hxs))).2 (fun _ _ => rfl) hr ?_
        refine r_castX (pc := 111) (RX18, TX18, 3) _ dX4_says_111 hK7 rfl q672 nc_30 (by decide) (by decide) (Nat.le_of_ble_eq_true rfl) (Nat.le_of_ble_eq_true rfl) (Nat.le_of_ble_eq_true rfl) (Nat.le_of_ble_eq_true rfl) (fun N q hN => ?_)
        refine t_catch [] _ _ _ rfl (fun z hz => absurd hz List.not_mem_nil) rfl (by decide) q492 q504 ?_
        exact hX N q _ hN ((hs2 _ (by decide)).trans (by rw [e7]; exact cI_t (by decide)))
      · refine r_swIn (pc := 1) 127 dX4_says_1 (by decide) (by decide) rfl rfl ?_
        subst h1
        refine r_aload_n (pc := 127) dX4_says_127 rfl ?_
        refine r_getR (pc := 128) dX4_says_128 fl_X4_9_4 (hx.1.2.2.2.2.2.2.2.2.2 (Int32.toNatClampNeg xs) (vp_in_lt (vp_sh hxs))).2 (fun _ _ => rfl) hr ?_
        refine r_ifnonnull (pc := 131) 138 dX4_says_131 rfl ?_
        refine r_aload_n (pc := 138) dX4_says_138 rfl ?_
        refine r_getR (pc := 139) dX4_says_139 fl_X4_9_4 (hx.1.2.2.2.2.2.2.2.2.2 (Int32.toNatClampNeg xs) (vp_in_lt (vp_sh hxs))).2 (fun _ _ => rfl) hr ?_
        refine r_castX (pc := 142) (RX18, TX18, 3) _ dX4_says_142 hK7 rfl q674 nc_40 (by decide) (by decide) (Nat.le_of_ble_eq_true rfl) (Nat.le_of_ble_eq_true rfl) (Nat.le_of_ble_eq_true rfl) (Nat.le_of_ble_eq_true rfl) (fun N q hN => ?_)
        refine t_catch [] _ _ _ rfl (fun z hz => absurd hz List.not_mem_nil) rfl (by decide) q492 q504 ?_
        exact hX N q _ hN ((hs2 _ (by decide)).trans (by rw [e7]; exact cI_t (by decide)))
      · refine r_swIn (pc := 1) 153 dX4_says_1 (by decide) (by decide) rfl rfl ?_
        subst h1
        refine r_aload_n (pc := 153) dX4_says_153 rfl ?_
        refine r_getR (pc := 154) dX4_says_154 fl_X4_9_4 (hx.1.2.2.2.2.2.2.2.2.2 (Int32.toNatClampNeg xs) (vp_in_lt (vp_sh hxs))).2 (fun _ _ => rfl) hr ?_
        refine r_ifnonnull (pc := 157) 164 dX4_says_157 rfl ?_
        refine r_aload_n (pc := 164) dX4_says_164 rfl ?_
        refine r_getR (pc := 165) dX4_says_165 fl_X4_9_4 (hx.1.2.2.2.2.2.2.2.2.2 (Int32.toNatClampNeg xs) (vp_in_lt (vp_sh hxs))).2 (fun _ _ => rfl) hr ?_
        refine r_castX (pc := 168) (RX18, TX18, 3) _ dX4_says_168 hK7 rfl q679 nc_50 (by decide) (by decide) (Nat.le_of_ble_eq_true rfl) (Nat.le_of_ble_eq_true rfl) (Nat.le_of_ble_eq_true rfl) (Nat.le_of_ble_eq_true rfl) (fun N q hN => ?_)
        refine t_catch [] _ _ _ rfl (fun z hz => absurd hz List.not_mem_nil) rfl (by decide) q492 q504 ?_
        exact hX N q _ hN ((hs2 _ (by decide)).trans (by rw [e7]; exact cI_t (by decide)))
      · refine r_swIn (pc := 1) 178 dX4_says_1 (by decide) (by decide) rfl rfl ?_
        subst h1
        refine r_aload_n (pc := 178) dX4_says_178 rfl ?_
        refine r_getR (pc := 179) dX4_says_179 fl_X4_9_4 (hx.1.2.2.2.2.2.2.2.2.2 (Int32.toNatClampNeg xs) (vp_in_lt (vp_sh hxs))).2 (fun _ _ => rfl) hr ?_
        refine r_ifnonnull (pc := 182) 189 dX4_says_182 rfl ?_
        refine r_aload_n (pc := 189) dX4_says_189 rfl ?_
        refine r_getR (pc := 190) dX4_says_190 fl_X4_9_4 (hx.1.2.2.2.2.2.2.2.2.2 (Int32.toNatClampNeg xs) (vp_in_lt (vp_sh hxs))).2 (fun _ _ => rfl) hr ?_
        refine r_castE (pc := 193) (RX18, TX18, 3) dX4_says_193 hK7 rfl q684 ?_
        refine r_o1 (pc := 196) (bc' := 4) (bs' := 957) (ct_X13_more_18 hK7) k_X4_62_18 dX4_says_196 hK7 (Nat.le_of_ble_eq_true rfl) ⟨Nat.le_of_ble_eq_true rfl, Nat.le_of_ble_eq_true rfl⟩ ⟨Nat.le_of_ble_eq_true rfl, Nat.le_of_ble_eq_true rfl⟩ (r_ci fun r196 M196 p196 => ?_) nox
        obtain ⟨rfl, p196⟩ := p196
        have p196 := Eq.symm (show _ = _ from p196)
        subst p196
        refine r_eqi (S.1 13 t) hT.2.2.2.2 ?_
        refine r_istore3 (pc := 199) dX4_says_199 rfl ?_
        refine r_goto (pc := 200) 225 dX4_says_200 rfl ?_
        exact hE _ ((hs2 _ (by decide)).trans (by rw [e7]; rw [cI_f (by decide), cI_f (by decide), cI_f (by decide), cI_f (by decide)]))
      · have hx0 : x1 = 0 := say_0 hx1 h1
        refine r_swOut (pc := 1) 203 dX4_says_1 h1 rfl ?_
        refine r_aload_n (pc := 203) dX4_says_203 rfl ?_
        refine r_getR (pc := 204) dX4_says_204 fl_X4_9_4 (hx.1.2.2.2.2.2.2.2.2.2 (Int32.toNatClampNeg xs) (vp_in_lt (vp_sh hxs))).2 (fun _ _ => rfl) hr ?_
        refine r_ifnonnull (pc := 207) 214 dX4_says_207 rfl ?_
        refine r_aload_n (pc := 214) dX4_says_214 rfl ?_
        refine r_getR (pc := 215) dX4_says_215 fl_X4_9_4 (hx.1.2.2.2.2.2.2.2.2.2 (Int32.toNatClampNeg xs) (vp_in_lt (vp_sh hxs))).2 (fun _ _ => rfl) hr ?_
        refine r_castY (pc := 218) (RX18, TX18, 3) _ dX4_says_218 hK7 rfl q534 q1954 ?_
        refine r_o1 (pc := 221) (bc' := 4) (bs' := 957) (ct_X12_said_18 hK7) k_X4_63_18 dX4_says_221 hK7 (Nat.le_of_ble_eq_true rfl) ⟨Nat.le_of_ble_eq_true rfl, Nat.le_of_ble_eq_true rfl⟩ ⟨Nat.le_of_ble_eq_true rfl, Nat.le_of_ble_eq_true rfl⟩ (r_ci fun r221 M221 p221 => ?_) nox
        obtain ⟨rfl, p221⟩ := p221
        have p221 := Eq.symm (show _ = _ from p221)
        subst p221
        refine r_eqi (S.1 12 t) hT.2.2.2.1 ?_
        refine r_istore3 (pc := 224) dX4_says_224 rfl ?_
        exact hE _ ((hs2 _ hx1).trans (by rw [cI_f (fun h => h.1 hx0), cI_t hx0]))
