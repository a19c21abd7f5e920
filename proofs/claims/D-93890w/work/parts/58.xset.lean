/-! X: isSet (printed by gen/mk_x58.py) -/
set_option maxRecDepth 100000
theorem shr_n : ∀ m, m < 9 → ((nI m &&& 31).toBitVec.smod 32).toNat = m := by decide +kernel
theorem shr_i {x : Int32} {m : Nat} (hm : m < 9) : (x >>> (nI m &&& 31)).toInt = x.toInt / 2 ^ m := by
  show (x.toBitVec.sshiftRight ((nI m &&& 31).toBitVec.smod 32).toNat).toInt = _
  rw [shr_n m hm, BitVec.toInt_sshiftRight, Int.shiftRight_eq_div_pow]
  rfl
theorem shr_0 {x : Int32} {m : Nat} (hm : m < 9) (h : ¬ x < 0) : x >>> (nI m &&& 31) = 0 ↔ x < (1 : Int32) <<< (nI m &&& 31) := by
  have z : (0 : Int32).toInt = 0 := by decide
  have hp : 2 ^ m ≤ 256 := by
    have : 2 ^ m ≤ 2 ^ 8 := Nat.pow_le_pow_right (by decide) (by omega)
    exact this
  rw [i_lt] at h
  rw [bt_shl m hm, i_lt, nI_toInt (by omega), i_eq, shr_i hm, z]
  have hq : (0 : Int) < ((2 ^ m : Nat) : Int) := by have : 0 < 2 ^ m := Nat.pow_pos (by decide); omega
  rw [show (2 : Int) ^ m = ((2 ^ m : Nat) : Int) by simp]
  constructor
  · intro e
    have := Int.emod_add_mul_ediv x.toInt ((2 ^ m : Nat) : Int)
    rw [e] at this
    have := Int.emod_lt_of_pos x.toInt hq
    omega
  · intro e
    exact Int.ediv_eq_zero_of_lt (by omega) e
theorem ct_X0_isSet {M : PM} {xo wa mo : Nat} {Z : PM} {S : ST} (hx : XO M xo wa mo Z S) (x1 : Int32) (hB : OkT S.1) : Ct (YX0_isSet, (0, 0, 0, 0), qi (fun r M' => r = bI (setP S.1 x1) ∧ M' = M), noX) [.ref xo, .int x1] M := by
  refine ct_of [some (.ref xo), some (.int x1)] rfl rfl rfl (Nat.le_of_ble_eq_true rfl) rfl rfl ?_
  obtain ⟨N1, hN1, e1⟩ := bd_nI (n := 8) hB.1.2.1
  refine r_iload_n (pc := 0) dX0_isSet_0 rfl ?_
  refine r_if_lt (pc := 1) 20 dX0_isSet_1 rfl (fun h1 => ?_) (fun h1 => ?_)
  · have hno : ¬ setP S.1 x1 := fun hh => hh.1 h1
    refine r_iconst (pc := 20) (v := 0) dX0_isSet_20 (by decide) ?_
    refine r_zreturn (pc := 21) rfl rfl dX0_isSet_21 ⟨_, rfl, ?_⟩
    exact ⟨(bI_f hno).symm, rfl⟩
  · refine r_iload_n (pc := 4) dX0_isSet_4 rfl ?_
    refine r_aload_n (pc := 5) dX0_isSet_5 rfl ?_
    refine r_getR (pc := 6) dX0_isSet_6 fl_X0_90_0 hx.1.2.1 (fun _ _ => rfl) hx.2.2.1.1 ?_
    refine r_getIe (pc := 9) (v := S.1 1 0) dX0_isSet_9 fl_X0_123_3 hx.2.2.1.2.2.k (fun _ _ => rfl) hx.2.2.1.2.2.i5 ?_
    refine r_ishr (pc := 12) dX0_isSet_12 ?_
    refine r_if_ne (pc := 13) 20 dX0_isSet_13 rfl (fun h13 => ?_) (fun h13 => ?_)
    · have hno : ¬ setP S.1 x1 := fun hh => by have h9 := hh.2; rw [e1] at h9 h13; exact h13 ((shr_0 (by omega) h1).mpr h9)
      refine r_iconst (pc := 20) (v := 0) dX0_isSet_20 (by decide) ?_
      refine r_zreturn (pc := 21) rfl rfl dX0_isSet_21 ⟨_, rfl, ?_⟩
      exact ⟨(bI_f hno).symm, rfl⟩
    · refine r_iconst (pc := 16) (v := 1) dX0_isSet_16 (by decide) ?_
      refine r_goto (pc := 17) 21 dX0_isSet_17 rfl ?_
      refine r_zreturn (pc := 21) rfl rfl dX0_isSet_21 ⟨_, rfl, ?_⟩
      exact ⟨(bI_t ⟨h1, by rw [e1] at h13 ⊢; exact (shr_0 (by omega) h1).mp h13⟩).symm, rfl⟩
