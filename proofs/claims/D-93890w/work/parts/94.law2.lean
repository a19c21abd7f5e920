/-! THE LAW'S CASES (printed by gen/mk_x93.py) -/
set_option maxRecDepth 100000
theorem law_11 {Ω : OM} {l : Launch} {p : Program} {e : Env} {s : State} {m : MethodId} {args : Array Value} {below : List Frame} {meth : Method} {c : Code} (F : Fx Ω GL l p s m args meth c) {M : PM} {xo mo j n : Nat} (hL : Ω.2.2.2.2 7 ≤ 384) (hj6 : 6 * j + 5 < Ω.2.2.2.2 7) (hl : LI M xo mo)
    (hnx : ∀ M', LI M' xo mo → WL Ω l p e s m args below meth c GL (2773 * n) (19897 * n) M' 1747 [some (.ref (Ω.2.2.2.2 6)), some (.ref xo), some (.ref mo), some (.int (nI (6 * j)))] []) : WL Ω l p e s m args below meth c GL (2773 * (n + 1)) (19897 * (n + 1)) M 688 [some (.ref (Ω.2.2.2.2 6)), some (.ref xo), some (.ref mo), some (.int (nI (6 * j)))] [] := by
  obtain ⟨hm, hS, wa, hx⟩ := hl
  refine l_aload_n F (pc := 688) dL_law_688 rfl ?_
  refine l_aload_n F (pc := 689) dL_law_689 rfl ?_
  refine l_iload_n F (pc := 690) dL_law_690 rfl ?_
  refine l_iconst F (pc := 691) (v := 1) dL_law_691 (by decide) ?_
  refine l_iadd F (pc := 692) dL_law_692 ?_
  refine l_scr F (pc := 693) dL_law_693 (scr_in hj6 hL (by decide)) ?_
  refine l_aload_n F (pc := 694) dL_law_694 rfl ?_
  refine l_iload_n F (pc := 695) dL_law_695 rfl ?_
  refine l_iconst F (pc := 696) (v := 2) dL_law_696 (by decide) ?_
  refine l_iadd F (pc := 697) dL_law_697 ?_
  refine l_scr F (pc := 698) dL_law_698 (scr_in hj6 hL (by decide)) ?_
  refine l_call F (pc := 699) (bc' := 2773 * n) (bs' := 19897 * n) (vs := [.ref xo, .int _, .int _]) (ct_X0_ask hx _ _ hS) k_L_66_0 dL_law_699 rfl rfl (fun _ h => by cases h; exact ⟨xo, _, rfl, hx.1.2.1⟩) (Nat.le_of_ble_eq_true rfl) ⟨Nat.le_of_ble_eq_true rfl, Nat.le_of_ble_eq_true rfl⟩ ⟨by show 2773 * n + 2 ≤ 2773 * (n + 1); omega, by show 19897 * n + 14 ≤ 19897 * (n + 1); omega⟩ (fun _ _ _ h => h) (l_ci fun r1 M1 p1 => ?_)
  obtain ⟨rfl, hX⟩ := li_x hm p1
  have hS' : OkS (sS (mI M1) (mL M1) mo).1 := by rw [hX.2.1]; exact hS
  refine l_aload_n F (pc := 702) dL_law_702 rfl ?_
  refine l_aload_n F (pc := 703) dL_law_703 rfl ?_
  refine l_iload_n F (pc := 704) dL_law_704 rfl ?_
  refine l_iconst F (pc := 705) (v := 1) dL_law_705 (by decide) ?_
  refine l_iadd F (pc := 706) dL_law_706 ?_
  refine l_scr F (pc := 707) dL_law_707 (scr_in hj6 hL (by decide)) ?_
  refine l_aload_n F (pc := 708) dL_law_708 rfl ?_
  refine l_iload_n F (pc := 709) dL_law_709 rfl ?_
  refine l_iconst F (pc := 710) (v := 2) dL_law_710 (by decide) ?_
  refine l_iadd F (pc := 711) dL_law_711 ?_
  refine l_scr F (pc := 712) dL_law_712 (scr_in hj6 hL (by decide)) ?_
  refine l_call F (pc := 713) (bc' := 2773 * n) (bs' := 19897 * n) (vs := [.ref mo, .int _, .int _]) (ct_X5_ask (M0 := M1) (I := mI M1) (L := mL M1) hX.1 _ _ hS') k_L_69_5 dL_law_713 rfl rfl (fun _ h => by cases h; exact ⟨mo, _, rfl, MR_k hX.1⟩) (Nat.le_of_ble_eq_true rfl) ⟨Nat.le_of_ble_eq_true rfl, Nat.le_of_ble_eq_true rfl⟩ ⟨Nat.le_refl _, Nat.le_refl _⟩ (fun _ _ _ h => h) (l_ci fun r2 M2 p2 => ?_)
  obtain ⟨rfl, hl2⟩ := li_m hX (ok_ask hS _ _) (by have p3 := p2; rw [hX.2.1] at p3; exact p3)
  refine l_icmp_eq F (pc := 716) 1747 dL_law_716 rfl (fun _ => ?_) (fun hno => False.elim (hno (by first | rfl | (rw [hX.2.1]) | (show _ = _; rw [hX.2.1]))))
  exact hnx M2 hl2
theorem law_12 {Ω : OM} {l : Launch} {p : Program} {e : Env} {s : State} {m : MethodId} {args : Array Value} {below : List Frame} {meth : Method} {c : Code} (F : Fx Ω GL l p s m args meth c) {M : PM} {xo mo j n : Nat} (hL : Ω.2.2.2.2 7 ≤ 384) (hj6 : 6 * j + 5 < Ω.2.2.2.2 7) (hl : LI M xo mo)
    (hnx : ∀ M', LI M' xo mo → WL Ω l p e s m args below meth c GL (2773 * n) (19897 * n) M' 1747 [some (.ref (Ω.2.2.2.2 6)), some (.ref xo), some (.ref mo), some (.int (nI (6 * j)))] []) : WL Ω l p e s m args below meth c GL (2773 * (n + 1)) (19897 * (n + 1)) M 721 [some (.ref (Ω.2.2.2.2 6)), some (.ref xo), some (.ref mo), some (.int (nI (6 * j)))] [] := by
  obtain ⟨hm, hS, wa, hx⟩ := hl
  refine l_aload_n F (pc := 721) dL_law_721 rfl ?_
  refine l_aload_n F (pc := 722) dL_law_722 rfl ?_
  refine l_iload_n F (pc := 723) dL_law_723 rfl ?_
  refine l_iconst F (pc := 724) (v := 1) dL_law_724 (by decide) ?_
  refine l_iadd F (pc := 725) dL_law_725 ?_
  refine l_scr F (pc := 726) dL_law_726 (scr_in hj6 hL (by decide)) ?_
  refine l_aload_n F (pc := 727) dL_law_727 rfl ?_
  refine l_iload_n F (pc := 728) dL_law_728 rfl ?_
  refine l_iconst F (pc := 729) (v := 2) dL_law_729 (by decide) ?_
  refine l_iadd F (pc := 730) dL_law_730 ?_
  refine l_scr F (pc := 731) dL_law_731 (scr_in hj6 hL (by decide)) ?_
  refine l_call F (pc := 732) (bc' := 2773 * n) (bs' := 19897 * n) (vs := [.ref xo, .int _, .int _]) (ct_X0_river hx _ _ hS) k_L_70_0 dL_law_732 rfl rfl (fun _ h => by cases h; exact ⟨xo, _, rfl, hx.1.2.1⟩) (Nat.le_of_ble_eq_true rfl) ⟨Nat.le_of_ble_eq_true rfl, Nat.le_of_ble_eq_true rfl⟩ ⟨by show 2773 * n + 1 ≤ 2773 * (n + 1); omega, by show 19897 * n + 7 ≤ 19897 * (n + 1); omega⟩ (fun _ _ _ h => h) (l_ci fun r1 M1 p1 => ?_)
  obtain ⟨rfl, hX⟩ := li_x hm p1
  have hS' : OkS (sS (mI M1) (mL M1) mo).1 := by rw [hX.2.1]; exact hS
  refine l_aload_n F (pc := 735) dL_law_735 rfl ?_
  refine l_aload_n F (pc := 736) dL_law_736 rfl ?_
  refine l_iload_n F (pc := 737) dL_law_737 rfl ?_
  refine l_iconst F (pc := 738) (v := 1) dL_law_738 (by decide) ?_
  refine l_iadd F (pc := 739) dL_law_739 ?_
  refine l_scr F (pc := 740) dL_law_740 (scr_in hj6 hL (by decide)) ?_
  refine l_aload_n F (pc := 741) dL_law_741 rfl ?_
  refine l_iload_n F (pc := 742) dL_law_742 rfl ?_
  refine l_iconst F (pc := 743) (v := 2) dL_law_743 (by decide) ?_
  refine l_iadd F (pc := 744) dL_law_744 ?_
  refine l_scr F (pc := 745) dL_law_745 (scr_in hj6 hL (by decide)) ?_
  refine l_call F (pc := 746) (bc' := 2773 * n) (bs' := 19897 * n) (vs := [.ref mo, .int _, .int _]) (ct_X5_river (M0 := M1) (I := mI M1) (L := mL M1) hX.1 _ _ hS') k_L_73_5 dL_law_746 rfl rfl (fun _ h => by cases h; exact ⟨mo, _, rfl, MR_k hX.1⟩) (Nat.le_of_ble_eq_true rfl) ⟨Nat.le_of_ble_eq_true rfl, Nat.le_of_ble_eq_true rfl⟩ ⟨Nat.le_refl _, Nat.le_refl _⟩ (fun _ _ _ h => h) (l_ci fun r2 M2 p2 => ?_)
  obtain ⟨rfl, hl2⟩ := li_m hX (ok_river hS _ _) (by have p3 := p2; rw [hX.2.1] at p3; exact p3)
  refine l_icmp_eq F (pc := 749) 1747 dL_law_749 rfl (fun _ => ?_) (fun hno => False.elim (hno (by first | rfl | (rw [hX.2.1]) | (show _ = _; rw [hX.2.1]))))
  exact hnx M2 hl2
theorem law_13 {Ω : OM} {l : Launch} {p : Program} {e : Env} {s : State} {m : MethodId} {args : Array Value} {below : List Frame} {meth : Method} {c : Code} (F : Fx Ω GL l p s m args meth c) {M : PM} {xo mo j n : Nat} (hL : Ω.2.2.2.2 7 ≤ 384) (hj6 : 6 * j + 5 < Ω.2.2.2.2 7) (hl : LI M xo mo)
    (hnx : ∀ M', LI M' xo mo → WL Ω l p e s m args below meth c GL (2773 * n) (19897 * n) M' 1747 [some (.ref (Ω.2.2.2.2 6)), some (.ref xo), some (.ref mo), some (.int (nI (6 * j)))] []) : WL Ω l p e s m args below meth c GL (2773 * (n + 1)) (19897 * (n + 1)) M 754 [some (.ref (Ω.2.2.2.2 6)), some (.ref xo), some (.ref mo), some (.int (nI (6 * j)))] [] := by
  obtain ⟨hm, hS, wa, hx⟩ := hl
  refine l_aload_n F (pc := 754) dL_law_754 rfl ?_
  refine l_aload_n F (pc := 755) dL_law_755 rfl ?_
  refine l_iload_n F (pc := 756) dL_law_756 rfl ?_
  refine l_iconst F (pc := 757) (v := 1) dL_law_757 (by decide) ?_
  refine l_iadd F (pc := 758) dL_law_758 ?_
  refine l_scr F (pc := 759) dL_law_759 (scr_in hj6 hL (by decide)) ?_
  refine l_aload_n F (pc := 760) dL_law_760 rfl ?_
  refine l_iload_n F (pc := 761) dL_law_761 rfl ?_
  refine l_iconst F (pc := 762) (v := 2) dL_law_762 (by decide) ?_
  refine l_iadd F (pc := 763) dL_law_763 ?_
  refine l_scr F (pc := 764) dL_law_764 (scr_in hj6 hL (by decide)) ?_
  refine l_call F (pc := 765) (bc' := 2773 * n) (bs' := 19897 * n) (vs := [.ref xo, .int _, .int _]) (ct_X0_thingOf hx _ _ hS) k_L_74_0 dL_law_765 rfl rfl (fun _ h => by cases h; exact ⟨xo, _, rfl, hx.1.2.1⟩) (Nat.le_of_ble_eq_true rfl) ⟨Nat.le_of_ble_eq_true rfl, Nat.le_of_ble_eq_true rfl⟩ ⟨by show 2773 * n + 0 ≤ 2773 * (n + 1); omega, by show 19897 * n + 0 ≤ 19897 * (n + 1); omega⟩ (fun _ _ _ h => h) (l_ci fun r1 M1 p1 => ?_)
  obtain ⟨rfl, hX⟩ := li_x hm p1
  have hS' : OkS (sS (mI M1) (mL M1) mo).1 := by rw [hX.2.1]; exact hS
  refine l_aload_n F (pc := 768) dL_law_768 rfl ?_
  refine l_aload_n F (pc := 769) dL_law_769 rfl ?_
  refine l_iload_n F (pc := 770) dL_law_770 rfl ?_
  refine l_iconst F (pc := 771) (v := 1) dL_law_771 (by decide) ?_
  refine l_iadd F (pc := 772) dL_law_772 ?_
  refine l_scr F (pc := 773) dL_law_773 (scr_in hj6 hL (by decide)) ?_
  refine l_aload_n F (pc := 774) dL_law_774 rfl ?_
  refine l_iload_n F (pc := 775) dL_law_775 rfl ?_
  refine l_iconst F (pc := 776) (v := 2) dL_law_776 (by decide) ?_
  refine l_iadd F (pc := 777) dL_law_777 ?_
  refine l_scr F (pc := 778) dL_law_778 (scr_in hj6 hL (by decide)) ?_
  refine l_call F (pc := 779) (bc' := 2773 * n) (bs' := 19897 * n) (vs := [.ref mo, .int _, .int _]) (ct_X5_thingOf (M0 := M1) (I := mI M1) (L := mL M1) hX.1 _ _ hS') k_L_77_5 dL_law_779 rfl rfl (fun _ h => by cases h; exact ⟨mo, _, rfl, MR_k hX.1⟩) (Nat.le_of_ble_eq_true rfl) ⟨Nat.le_of_ble_eq_true rfl, Nat.le_of_ble_eq_true rfl⟩ ⟨Nat.le_refl _, Nat.le_refl _⟩ (fun _ _ _ h => h) (l_ci fun r2 M2 p2 => ?_)
  obtain ⟨rfl, hl2⟩ := li_m hX (ok_thingOf hS _ _) (by have p3 := p2; rw [hX.2.1] at p3; exact p3)
  refine l_icmp_eq F (pc := 782) 1747 dL_law_782 rfl (fun _ => ?_) (fun hno => False.elim (hno (by first | rfl | (rw [hX.2.1]) | (show _ = _; rw [hX.2.1]))))
  exact hnx M2 hl2
theorem law_14 {Ω : OM} {l : Launch} {p : Program} {e : Env} {s : State} {m : MethodId} {args : Array Value} {below : List Frame} {meth : Method} {c : Code} (F : Fx Ω GL l p s m args meth c) {M : PM} {xo mo j n : Nat} (hL : Ω.2.2.2.2 7 ≤ 384) (hj6 : 6 * j + 5 < Ω.2.2.2.2 7) (hl : LI M xo mo)
    (hnx : ∀ M', LI M' xo mo → WL Ω l p e s m args below meth c GL (2773 * n) (19897 * n) M' 1747 [some (.ref (Ω.2.2.2.2 6)), some (.ref xo), some (.ref mo), some (.int (nI (6 * j)))] []) : WL Ω l p e s m args below meth c GL (2773 * (n + 1)) (19897 * (n + 1)) M 787 [some (.ref (Ω.2.2.2.2 6)), some (.ref xo), some (.ref mo), some (.int (nI (6 * j)))] [] := by
  obtain ⟨hm, hS, wa, hx⟩ := hl
  refine l_aload_n F (pc := 787) dL_law_787 rfl ?_
  refine l_aload_n F (pc := 788) dL_law_788 rfl ?_
  refine l_iload_n F (pc := 789) dL_law_789 rfl ?_
  refine l_iconst F (pc := 790) (v := 1) dL_law_790 (by decide) ?_
  refine l_iadd F (pc := 791) dL_law_791 ?_
  refine l_scr F (pc := 792) dL_law_792 (scr_in hj6 hL (by decide)) ?_
  refine l_aload_n F (pc := 793) dL_law_793 rfl ?_
  refine l_iload_n F (pc := 794) dL_law_794 rfl ?_
  refine l_iconst F (pc := 795) (v := 2) dL_law_795 (by decide) ?_
  refine l_iadd F (pc := 796) dL_law_796 ?_
  refine l_scr F (pc := 797) dL_law_797 (scr_in hj6 hL (by decide)) ?_
  refine l_call F (pc := 798) (bc' := 2773 * n) (bs' := 19897 * n) (vs := [.ref xo, .int _, .int _]) (ct_X0_manOf hx _ _ hS) k_L_78_0 dL_law_798 rfl rfl (fun _ h => by cases h; exact ⟨xo, _, rfl, hx.1.2.1⟩) (Nat.le_of_ble_eq_true rfl) ⟨Nat.le_of_ble_eq_true rfl, Nat.le_of_ble_eq_true rfl⟩ ⟨by show 2773 * n + 0 ≤ 2773 * (n + 1); omega, by show 19897 * n + 0 ≤ 19897 * (n + 1); omega⟩ (fun _ _ _ h => h) (l_ci fun r1 M1 p1 => ?_)
  obtain ⟨rfl, hX⟩ := li_x hm p1
  have hS' : OkS (sS (mI M1) (mL M1) mo).1 := by rw [hX.2.1]; exact hS
  refine l_aload_n F (pc := 801) dL_law_801 rfl ?_
  refine l_aload_n F (pc := 802) dL_law_802 rfl ?_
  refine l_iload_n F (pc := 803) dL_law_803 rfl ?_
  refine l_iconst F (pc := 804) (v := 1) dL_law_804 (by decide) ?_
  refine l_iadd F (pc := 805) dL_law_805 ?_
  refine l_scr F (pc := 806) dL_law_806 (scr_in hj6 hL (by decide)) ?_
  refine l_aload_n F (pc := 807) dL_law_807 rfl ?_
  refine l_iload_n F (pc := 808) dL_law_808 rfl ?_
  refine l_iconst F (pc := 809) (v := 2) dL_law_809 (by decide) ?_
  refine l_iadd F (pc := 810) dL_law_810 ?_
  refine l_scr F (pc := 811) dL_law_811 (scr_in hj6 hL (by decide)) ?_
  refine l_call F (pc := 812) (bc' := 2773 * n) (bs' := 19897 * n) (vs := [.ref mo, .int _, .int _]) (ct_X5_manOf (M0 := M1) (I := mI M1) (L := mL M1) hX.1 _ _ hS') k_L_81_5 dL_law_812 rfl rfl (fun _ h => by cases h; exact ⟨mo, _, rfl, MR_k hX.1⟩) (Nat.le_of_ble_eq_true rfl) ⟨Nat.le_of_ble_eq_true rfl, Nat.le_of_ble_eq_true rfl⟩ ⟨Nat.le_refl _, Nat.le_refl _⟩ (fun _ _ _ h => h) (l_ci fun r2 M2 p2 => ?_)
  obtain ⟨rfl, hl2⟩ := li_m hX (ok_manOf hS _ _) (by have p3 := p2; rw [hX.2.1] at p3; exact p3)
  refine l_icmp_eq F (pc := 815) 1747 dL_law_815 rfl (fun _ => ?_) (fun hno => False.elim (hno (by first | rfl | (rw [hX.2.1]) | (show _ = _; rw [hX.2.1]))))
  exact hnx M2 hl2
theorem law_15 {Ω : OM} {l : Launch} {p : Program} {e : Env} {s : State} {m : MethodId} {args : Array Value} {below : List Frame} {meth : Method} {c : Code} (F : Fx Ω GL l p s m args meth c) {M : PM} {xo mo j n : Nat} (hL : Ω.2.2.2.2 7 ≤ 384) (hj6 : 6 * j + 5 < Ω.2.2.2.2 7) (hl : LI M xo mo)
    (hnx : ∀ M', LI M' xo mo → WL Ω l p e s m args below meth c GL (2773 * n) (19897 * n) M' 1747 [some (.ref (Ω.2.2.2.2 6)), some (.ref xo), some (.ref mo), some (.int (nI (6 * j)))] []) : WL Ω l p e s m args below meth c GL (2773 * (n + 1)) (19897 * (n + 1)) M 820 [some (.ref (Ω.2.2.2.2 6)), some (.ref xo), some (.ref mo), some (.int (nI (6 * j)))] [] := by
  obtain ⟨hm, hS, wa, hx⟩ := hl
  refine l_aload_n F (pc := 820) dL_law_820 rfl ?_
  refine l_aload_n F (pc := 821) dL_law_821 rfl ?_
  refine l_iload_n F (pc := 822) dL_law_822 rfl ?_
  refine l_iconst F (pc := 823) (v := 1) dL_law_823 (by decide) ?_
  refine l_iadd F (pc := 824) dL_law_824 ?_
  refine l_scr F (pc := 825) dL_law_825 (scr_in hj6 hL (by decide)) ?_
  refine l_aload_n F (pc := 826) dL_law_826 rfl ?_
  refine l_iload_n F (pc := 827) dL_law_827 rfl ?_
  refine l_iconst F (pc := 828) (v := 2) dL_law_828 (by decide) ?_
  refine l_iadd F (pc := 829) dL_law_829 ?_
  refine l_scr F (pc := 830) dL_law_830 (scr_in hj6 hL (by decide)) ?_
  refine l_call F (pc := 831) (bc' := 2773 * n) (bs' := 19897 * n) (vs := [.ref xo, .int _, .int _]) (ct_X0_wantOf hx _ _ hS) k_L_82_0 dL_law_831 rfl rfl (fun _ h => by cases h; exact ⟨xo, _, rfl, hx.1.2.1⟩) (Nat.le_of_ble_eq_true rfl) ⟨Nat.le_of_ble_eq_true rfl, Nat.le_of_ble_eq_true rfl⟩ ⟨by show 2773 * n + 0 ≤ 2773 * (n + 1); omega, by show 19897 * n + 0 ≤ 19897 * (n + 1); omega⟩ (fun _ _ _ h => h) (l_ci fun r1 M1 p1 => ?_)
  obtain ⟨rfl, hX⟩ := li_x hm p1
  have hS' : OkS (sS (mI M1) (mL M1) mo).1 := by rw [hX.2.1]; exact hS
  refine l_aload_n F (pc := 834) dL_law_834 rfl ?_
  refine l_aload_n F (pc := 835) dL_law_835 rfl ?_
  refine l_iload_n F (pc := 836) dL_law_836 rfl ?_
  refine l_iconst F (pc := 837) (v := 1) dL_law_837 (by decide) ?_
  refine l_iadd F (pc := 838) dL_law_838 ?_
  refine l_scr F (pc := 839) dL_law_839 (scr_in hj6 hL (by decide)) ?_
  refine l_aload_n F (pc := 840) dL_law_840 rfl ?_
  refine l_iload_n F (pc := 841) dL_law_841 rfl ?_
  refine l_iconst F (pc := 842) (v := 2) dL_law_842 (by decide) ?_
  refine l_iadd F (pc := 843) dL_law_843 ?_
  refine l_scr F (pc := 844) dL_law_844 (scr_in hj6 hL (by decide)) ?_
  refine l_call F (pc := 845) (bc' := 2773 * n) (bs' := 19897 * n) (vs := [.ref mo, .int _, .int _]) (ct_X5_wantOf (M0 := M1) (I := mI M1) (L := mL M1) hX.1 _ _ hS') k_L_85_5 dL_law_845 rfl rfl (fun _ h => by cases h; exact ⟨mo, _, rfl, MR_k hX.1⟩) (Nat.le_of_ble_eq_true rfl) ⟨Nat.le_of_ble_eq_true rfl, Nat.le_of_ble_eq_true rfl⟩ ⟨Nat.le_refl _, Nat.le_refl _⟩ (fun _ _ _ h => h) (l_ci fun r2 M2 p2 => ?_)
  obtain ⟨rfl, hl2⟩ := li_m hX (ok_wantOf hS _ _) (by have p3 := p2; rw [hX.2.1] at p3; exact p3)
  refine l_icmp_eq F (pc := 848) 1747 dL_law_848 rfl (fun _ => ?_) (fun hno => False.elim (hno (by first | rfl | (rw [hX.2.1]) | (show _ = _; rw [hX.2.1]))))
  exact hnx M2 hl2
theorem law_16 {Ω : OM} {l : Launch} {p : Program} {e : Env} {s : State} {m : MethodId} {args : Array Value} {below : List Frame} {meth : Method} {c : Code} (F : Fx Ω GL l p s m args meth c) {M : PM} {xo mo j n : Nat} (hL : Ω.2.2.2.2 7 ≤ 384) (hj6 : 6 * j + 5 < Ω.2.2.2.2 7) (hl : LI M xo mo)
    (hnx : ∀ M', LI M' xo mo → WL Ω l p e s m args below meth c GL (2773 * n) (19897 * n) M' 1747 [some (.ref (Ω.2.2.2.2 6)), some (.ref xo), some (.ref mo), some (.int (nI (6 * j)))] []) : WL Ω l p e s m args below meth c GL (2773 * (n + 1)) (19897 * (n + 1)) M 853 [some (.ref (Ω.2.2.2.2 6)), some (.ref xo), some (.ref mo), some (.int (nI (6 * j)))] [] := by
  obtain ⟨hm, hS, wa, hx⟩ := hl
  refine l_aload_n F (pc := 853) dL_law_853 rfl ?_
  refine l_aload_n F (pc := 854) dL_law_854 rfl ?_
  refine l_iload_n F (pc := 855) dL_law_855 rfl ?_
  refine l_iconst F (pc := 856) (v := 1) dL_law_856 (by decide) ?_
  refine l_iadd F (pc := 857) dL_law_857 ?_
  refine l_scr F (pc := 858) dL_law_858 (scr_in hj6 hL (by decide)) ?_
  refine l_call F (pc := 859) (bc' := 2773 * n) (bs' := 19897 * n) (vs := [.ref xo, .int _]) (ct_X0_valley hx _ hS) k_L_86_0 dL_law_859 rfl rfl (fun _ h => by cases h; exact ⟨xo, _, rfl, hx.1.2.1⟩) (Nat.le_of_ble_eq_true rfl) ⟨Nat.le_of_ble_eq_true rfl, Nat.le_of_ble_eq_true rfl⟩ ⟨by show 2773 * n + 2773 ≤ 2773 * (n + 1); omega, by show 19897 * n + 19897 ≤ 19897 * (n + 1); omega⟩ (fun _ _ _ h => h) (l_ci fun r1 M1 p1 => ?_)
  obtain ⟨rfl, hX⟩ := li_x hm p1
  have hS' : OkS (sS (mI M1) (mL M1) mo).1 := by rw [hX.2.1]; exact hS
  refine l_aload_n F (pc := 862) dL_law_862 rfl ?_
  refine l_aload_n F (pc := 863) dL_law_863 rfl ?_
  refine l_iload_n F (pc := 864) dL_law_864 rfl ?_
  refine l_iconst F (pc := 865) (v := 1) dL_law_865 (by decide) ?_
  refine l_iadd F (pc := 866) dL_law_866 ?_
  refine l_scr F (pc := 867) dL_law_867 (scr_in hj6 hL (by decide)) ?_
  refine l_call F (pc := 868) (bc' := 2773 * n) (bs' := 19897 * n) (vs := [.ref mo, .int _]) (ct_X5_valley (M0 := M1) (I := mI M1) (L := mL M1) hX.1 _ hS') k_L_89_5 dL_law_868 rfl rfl (fun _ h => by cases h; exact ⟨mo, _, rfl, MR_k hX.1⟩) (Nat.le_of_ble_eq_true rfl) ⟨Nat.le_of_ble_eq_true rfl, Nat.le_of_ble_eq_true rfl⟩ ⟨Nat.le_refl _, Nat.le_refl _⟩ (fun _ _ _ h => h) (l_ci fun r2 M2 p2 => ?_)
  obtain ⟨rfl, hl2⟩ := li_m hX (ok_valley hS _) (by have p3 := p2; rw [hX.2.1] at p3; exact p3)
  refine l_icmp_eq F (pc := 871) 1747 dL_law_871 rfl (fun _ => ?_) (fun hno => False.elim (hno (by first | rfl | (rw [hX.2.1]) | (show _ = _; rw [hX.2.1]))))
  exact hnx M2 hl2
theorem law_17 {Ω : OM} {l : Launch} {p : Program} {e : Env} {s : State} {m : MethodId} {args : Array Value} {below : List Frame} {meth : Method} {c : Code} (F : Fx Ω GL l p s m args meth c) {M : PM} {xo mo j n : Nat} (hL : Ω.2.2.2.2 7 ≤ 384) (hj6 : 6 * j + 5 < Ω.2.2.2.2 7) (hl : LI M xo mo)
    (hnx : ∀ M', LI M' xo mo → WL Ω l p e s m args below meth c GL (2773 * n) (19897 * n) M' 1747 [some (.ref (Ω.2.2.2.2 6)), some (.ref xo), some (.ref mo), some (.int (nI (6 * j)))] []) : WL Ω l p e s m args below meth c GL (2773 * (n + 1)) (19897 * (n + 1)) M 876 [some (.ref (Ω.2.2.2.2 6)), some (.ref xo), some (.ref mo), some (.int (nI (6 * j)))] [] := by
  obtain ⟨hm, hS, wa, hx⟩ := hl
  refine l_aload_n F (pc := 876) dL_law_876 rfl ?_
  refine l_call F (pc := 877) (bc' := 2773 * n) (bs' := 19897 * n) (vs := [.ref xo]) (ct_X0_fault hx hS) k_L_90_0 dL_law_877 rfl rfl (fun _ h => by cases h; exact ⟨xo, _, rfl, hx.1.2.1⟩) (Nat.le_of_ble_eq_true rfl) ⟨Nat.le_of_ble_eq_true rfl, Nat.le_of_ble_eq_true rfl⟩ ⟨by show 2773 * n + 0 ≤ 2773 * (n + 1); omega, by show 19897 * n + 0 ≤ 19897 * (n + 1); omega⟩ (fun _ _ _ h => h) (l_ci fun r1 M1 p1 => ?_)
  obtain ⟨rfl, hX⟩ := li_x hm p1
  have hS' : OkS (sS (mI M1) (mL M1) mo).1 := by rw [hX.2.1]; exact hS
  refine l_aload_n F (pc := 880) dL_law_880 rfl ?_
  refine l_call F (pc := 881) (bc' := 2773 * n) (bs' := 19897 * n) (vs := [.ref mo]) (ct_X5_fault (M0 := M1) (I := mI M1) (L := mL M1) hX.1) k_L_94_5 dL_law_881 rfl rfl (fun _ h => by cases h; exact ⟨mo, _, rfl, MR_k hX.1⟩) (Nat.le_of_ble_eq_true rfl) ⟨Nat.le_of_ble_eq_true rfl, Nat.le_of_ble_eq_true rfl⟩ ⟨Nat.le_refl _, Nat.le_refl _⟩ (fun _ _ _ h => h) (l_ci fun r2 M2 p2 => ?_)
  obtain ⟨rfl, e2⟩ := p2
  have e2 : M2 = M1 := e2
  subst e2
  have hl2 := li_u hX hS
  refine l_icmp_eq F (pc := 884) 1747 dL_law_884 rfl (fun _ => ?_) (fun hno => False.elim (hno (congrArg (fun S : ST => S.1 9 0) hX.2.1).symm))
  exact hnx M2 hl2
theorem law_18 {Ω : OM} {l : Launch} {p : Program} {e : Env} {s : State} {m : MethodId} {args : Array Value} {below : List Frame} {meth : Method} {c : Code} (F : Fx Ω GL l p s m args meth c) {M : PM} {xo mo j n : Nat} (hL : Ω.2.2.2.2 7 ≤ 384) (hj6 : 6 * j + 5 < Ω.2.2.2.2 7) (hl : LI M xo mo)
    (hnx : ∀ M', LI M' xo mo → WL Ω l p e s m args below meth c GL (2773 * n) (19897 * n) M' 1747 [some (.ref (Ω.2.2.2.2 6)), some (.ref xo), some (.ref mo), some (.int (nI (6 * j)))] []) : WL Ω l p e s m args below meth c GL (2773 * (n + 1)) (19897 * (n + 1)) M 889 [some (.ref (Ω.2.2.2.2 6)), some (.ref xo), some (.ref mo), some (.int (nI (6 * j)))] [] := by
  obtain ⟨hm, hS, wa, hx⟩ := hl
  refine l_aload_n F (pc := 889) dL_law_889 rfl ?_
  refine l_aload_n F (pc := 890) dL_law_890 rfl ?_
  refine l_iload_n F (pc := 891) dL_law_891 rfl ?_
  refine l_iconst F (pc := 892) (v := 1) dL_law_892 (by decide) ?_
  refine l_iadd F (pc := 893) dL_law_893 ?_
  refine l_scr F (pc := 894) dL_law_894 (scr_in hj6 hL (by decide)) ?_
  refine l_aload_n F (pc := 895) dL_law_895 rfl ?_
  refine l_iload_n F (pc := 896) dL_law_896 rfl ?_
  refine l_iconst F (pc := 897) (v := 2) dL_law_897 (by decide) ?_
  refine l_iadd F (pc := 898) dL_law_898 ?_
  refine l_scr F (pc := 899) dL_law_899 (scr_in hj6 hL (by decide)) ?_
  refine l_call F (pc := 900) (bc' := 2773 * n) (bs' := 19897 * n) (vs := [.ref xo, .int _, .int _]) (ct_X0_far hx _ _ hS) k_L_95_0 dL_law_900 rfl rfl (fun _ h => by cases h; exact ⟨xo, _, rfl, hx.1.2.1⟩) (Nat.le_of_ble_eq_true rfl) ⟨Nat.le_of_ble_eq_true rfl, Nat.le_of_ble_eq_true rfl⟩ ⟨by show 2773 * n + 1 ≤ 2773 * (n + 1); omega, by show 19897 * n + 7 ≤ 19897 * (n + 1); omega⟩ (fun _ _ _ h => h) (l_ci fun r1 M1 p1 => ?_)
  obtain ⟨rfl, hX⟩ := li_x hm p1
  have hS' : OkS (sS (mI M1) (mL M1) mo).1 := by rw [hX.2.1]; exact hS
  refine l_aload_n F (pc := 903) dL_law_903 rfl ?_
  refine l_aload_n F (pc := 904) dL_law_904 rfl ?_
  refine l_iload_n F (pc := 905) dL_law_905 rfl ?_
  refine l_iconst F (pc := 906) (v := 1) dL_law_906 (by decide) ?_
  refine l_iadd F (pc := 907) dL_law_907 ?_
  refine l_scr F (pc := 908) dL_law_908 (scr_in hj6 hL (by decide)) ?_
  refine l_aload_n F (pc := 909) dL_law_909 rfl ?_
  refine l_iload_n F (pc := 910) dL_law_910 rfl ?_
  refine l_iconst F (pc := 911) (v := 2) dL_law_911 (by decide) ?_
  refine l_iadd F (pc := 912) dL_law_912 ?_
  refine l_scr F (pc := 913) dL_law_913 (scr_in hj6 hL (by decide)) ?_
  refine l_call F (pc := 914) (bc' := 2773 * n) (bs' := 19897 * n) (vs := [.ref mo, .int _, .int _]) (ct_X5_far (M0 := M1) (I := mI M1) (L := mL M1) hX.1 _ _ hS') k_L_98_5 dL_law_914 rfl rfl (fun _ h => by cases h; exact ⟨mo, _, rfl, MR_k hX.1⟩) (Nat.le_of_ble_eq_true rfl) ⟨Nat.le_of_ble_eq_true rfl, Nat.le_of_ble_eq_true rfl⟩ ⟨Nat.le_refl _, Nat.le_refl _⟩ (fun _ _ _ h => h) (l_ci fun r2 M2 p2 => ?_)
  obtain ⟨rfl, hl2⟩ := li_m hX (ok_far hS _ _) (by have p3 := p2; rw [hX.2.1] at p3; exact p3)
  refine l_icmp_eq F (pc := 917) 1747 dL_law_917 rfl (fun _ => ?_) (fun hno => False.elim (hno (by first | rfl | (rw [hX.2.1]) | (show _ = _; rw [hX.2.1]))))
  exact hnx M2 hl2
theorem law_19 {Ω : OM} {l : Launch} {p : Program} {e : Env} {s : State} {m : MethodId} {args : Array Value} {below : List Frame} {meth : Method} {c : Code} (F : Fx Ω GL l p s m args meth c) {M : PM} {xo mo j n : Nat} (hL : Ω.2.2.2.2 7 ≤ 384) (hj6 : 6 * j + 5 < Ω.2.2.2.2 7) (hl : LI M xo mo)
    (hnx : ∀ M', LI M' xo mo → WL Ω l p e s m args below meth c GL (2773 * n) (19897 * n) M' 1747 [some (.ref (Ω.2.2.2.2 6)), some (.ref xo), some (.ref mo), some (.int (nI (6 * j)))] []) : WL Ω l p e s m args below meth c GL (2773 * (n + 1)) (19897 * (n + 1)) M 922 [some (.ref (Ω.2.2.2.2 6)), some (.ref xo), some (.ref mo), some (.int (nI (6 * j)))] [] := by
  obtain ⟨hm, hS, wa, hx⟩ := hl
  refine l_aload_n F (pc := 922) dL_law_922 rfl ?_
  refine l_aload_n F (pc := 923) dL_law_923 rfl ?_
  refine l_iload_n F (pc := 924) dL_law_924 rfl ?_
  refine l_iconst F (pc := 925) (v := 1) dL_law_925 (by decide) ?_
  refine l_iadd F (pc := 926) dL_law_926 ?_
  refine l_scr F (pc := 927) dL_law_927 (scr_in hj6 hL (by decide)) ?_
  refine l_aload_n F (pc := 928) dL_law_928 rfl ?_
  refine l_iload_n F (pc := 929) dL_law_929 rfl ?_
  refine l_iconst F (pc := 930) (v := 2) dL_law_930 (by decide) ?_
  refine l_iadd F (pc := 931) dL_law_931 ?_
  refine l_scr F (pc := 932) dL_law_932 (scr_in hj6 hL (by decide)) ?_
  refine l_aload_n F (pc := 933) dL_law_933 rfl ?_
  refine l_iload_n F (pc := 934) dL_law_934 rfl ?_
  refine l_iconst F (pc := 935) (v := 3) dL_law_935 (by decide) ?_
  refine l_iadd F (pc := 936) dL_law_936 ?_
  refine l_scr F (pc := 937) dL_law_937 (scr_in hj6 hL (by decide)) ?_
  refine l_call F (pc := 938) (bc' := 2773 * n) (bs' := 19897 * n) (vs := [.ref xo, .int _, .int _, .int _]) (ct_X0_wrong hx _ _ _ hS) k_L_99_0 dL_law_938 rfl rfl (fun _ h => by cases h; exact ⟨xo, _, rfl, hx.1.2.1⟩) (Nat.le_of_ble_eq_true rfl) ⟨Nat.le_of_ble_eq_true rfl, Nat.le_of_ble_eq_true rfl⟩ ⟨by show 2773 * n + 1 ≤ 2773 * (n + 1); omega, by show 19897 * n + 7 ≤ 19897 * (n + 1); omega⟩ (fun _ _ _ h => h) (l_ci fun r1 M1 p1 => ?_)
  obtain ⟨rfl, hX⟩ := li_x hm p1
  have hS' : OkS (sS (mI M1) (mL M1) mo).1 := by rw [hX.2.1]; exact hS
  refine l_aload_n F (pc := 941) dL_law_941 rfl ?_
  refine l_aload_n F (pc := 942) dL_law_942 rfl ?_
  refine l_iload_n F (pc := 943) dL_law_943 rfl ?_
  refine l_iconst F (pc := 944) (v := 1) dL_law_944 (by decide) ?_
  refine l_iadd F (pc := 945) dL_law_945 ?_
  refine l_scr F (pc := 946) dL_law_946 (scr_in hj6 hL (by decide)) ?_
  refine l_aload_n F (pc := 947) dL_law_947 rfl ?_
  refine l_iload_n F (pc := 948) dL_law_948 rfl ?_
  refine l_iconst F (pc := 949) (v := 2) dL_law_949 (by decide) ?_
  refine l_iadd F (pc := 950) dL_law_950 ?_
  refine l_scr F (pc := 951) dL_law_951 (scr_in hj6 hL (by decide)) ?_
  refine l_aload_n F (pc := 952) dL_law_952 rfl ?_
  refine l_iload_n F (pc := 953) dL_law_953 rfl ?_
  refine l_iconst F (pc := 954) (v := 3) dL_law_954 (by decide) ?_
  refine l_iadd F (pc := 955) dL_law_955 ?_
  refine l_scr F (pc := 956) dL_law_956 (scr_in hj6 hL (by decide)) ?_
  refine l_call F (pc := 957) (bc' := 2773 * n) (bs' := 19897 * n) (vs := [.ref mo, .int _, .int _, .int _]) (ct_X5_wrong_2 (M0 := M1) (I := mI M1) (L := mL M1) hX.1 _ _ _ hS') k_L_102_5 dL_law_957 rfl rfl (fun _ h => by cases h; exact ⟨mo, _, rfl, MR_k hX.1⟩) (Nat.le_of_ble_eq_true rfl) ⟨Nat.le_of_ble_eq_true rfl, Nat.le_of_ble_eq_true rfl⟩ ⟨Nat.le_refl _, Nat.le_refl _⟩ (fun _ _ _ h => h) (l_ci fun r2 M2 p2 => ?_)
  obtain ⟨rfl, hl2⟩ := li_m hX (ok_wrong hS _ _ _) (by have p3 := p2; rw [hX.2.1] at p3; exact p3)
  refine l_icmp_eq F (pc := 960) 1747 dL_law_960 rfl (fun _ => ?_) (fun hno => False.elim (hno (by first | rfl | (rw [hX.2.1]) | (show _ = _; rw [hX.2.1]))))
  exact hnx M2 hl2
theorem law_20 {Ω : OM} {l : Launch} {p : Program} {e : Env} {s : State} {m : MethodId} {args : Array Value} {below : List Frame} {meth : Method} {c : Code} (F : Fx Ω GL l p s m args meth c) {M : PM} {xo mo j n : Nat} (hL : Ω.2.2.2.2 7 ≤ 384) (hj6 : 6 * j + 5 < Ω.2.2.2.2 7) (hl : LI M xo mo)
    (hnx : ∀ M', LI M' xo mo → WL Ω l p e s m args below meth c GL (2773 * n) (19897 * n) M' 1747 [some (.ref (Ω.2.2.2.2 6)), some (.ref xo), some (.ref mo), some (.int (nI (6 * j)))] []) : WL Ω l p e s m args below meth c GL (2773 * (n + 1)) (19897 * (n + 1)) M 965 [some (.ref (Ω.2.2.2.2 6)), some (.ref xo), some (.ref mo), some (.int (nI (6 * j)))] [] := by
  obtain ⟨hm, hS, wa, hx⟩ := hl
  refine l_aload_n F (pc := 965) dL_law_965 rfl ?_
  refine l_aload_n F (pc := 966) dL_law_966 rfl ?_
  refine l_iload_n F (pc := 967) dL_law_967 rfl ?_
  refine l_iconst F (pc := 968) (v := 1) dL_law_968 (by decide) ?_
  refine l_iadd F (pc := 969) dL_law_969 ?_
  refine l_scr F (pc := 970) dL_law_970 (scr_in hj6 hL (by decide)) ?_
  refine l_aload_n F (pc := 971) dL_law_971 rfl ?_
  refine l_iload_n F (pc := 972) dL_law_972 rfl ?_
  refine l_iconst F (pc := 973) (v := 2) dL_law_973 (by decide) ?_
  refine l_iadd F (pc := 974) dL_law_974 ?_
  refine l_scr F (pc := 975) dL_law_975 (scr_in hj6 hL (by decide)) ?_
  refine l_aload_n F (pc := 976) dL_law_976 rfl ?_
  refine l_iload_n F (pc := 977) dL_law_977 rfl ?_
  refine l_iconst F (pc := 978) (v := 3) dL_law_978 (by decide) ?_
  refine l_iadd F (pc := 979) dL_law_979 ?_
  refine l_scr F (pc := 980) dL_law_980 (scr_in hj6 hL (by decide)) ?_
  refine l_call F (pc := 981) (bc' := 2773 * n) (bs' := 19897 * n) (vs := [.ref xo, .int _, .int _, .int _]) (ct_X0_carry hx _ _ _ hS) k_L_103_0 dL_law_981 rfl rfl (fun _ h => by cases h; exact ⟨xo, _, rfl, hx.1.2.1⟩) (Nat.le_of_ble_eq_true rfl) ⟨Nat.le_of_ble_eq_true rfl, Nat.le_of_ble_eq_true rfl⟩ ⟨by show 2773 * n + 2 ≤ 2773 * (n + 1); omega, by show 19897 * n + 14 ≤ 19897 * (n + 1); omega⟩ (fun _ _ _ h => h) (l_ci fun r1 M1 p1 => ?_)
  obtain ⟨rfl, hX⟩ := li_x hm p1
  have hS' : OkS (sS (mI M1) (mL M1) mo).1 := by rw [hX.2.1]; exact hS
  refine l_aload_n F (pc := 984) dL_law_984 rfl ?_
  refine l_aload_n F (pc := 985) dL_law_985 rfl ?_
  refine l_iload_n F (pc := 986) dL_law_986 rfl ?_
  refine l_iconst F (pc := 987) (v := 1) dL_law_987 (by decide) ?_
  refine l_iadd F (pc := 988) dL_law_988 ?_
  refine l_scr F (pc := 989) dL_law_989 (scr_in hj6 hL (by decide)) ?_
  refine l_aload_n F (pc := 990) dL_law_990 rfl ?_
  refine l_iload_n F (pc := 991) dL_law_991 rfl ?_
  refine l_iconst F (pc := 992) (v := 2) dL_law_992 (by decide) ?_
  refine l_iadd F (pc := 993) dL_law_993 ?_
  refine l_scr F (pc := 994) dL_law_994 (scr_in hj6 hL (by decide)) ?_
  refine l_aload_n F (pc := 995) dL_law_995 rfl ?_
  refine l_iload_n F (pc := 996) dL_law_996 rfl ?_
  refine l_iconst F (pc := 997) (v := 3) dL_law_997 (by decide) ?_
  refine l_iadd F (pc := 998) dL_law_998 ?_
  refine l_scr F (pc := 999) dL_law_999 (scr_in hj6 hL (by decide)) ?_
  refine l_call F (pc := 1000) (bc' := 2773 * n) (bs' := 19897 * n) (vs := [.ref mo, .int _, .int _, .int _]) (ct_X5_carry (M0 := M1) (I := mI M1) (L := mL M1) hX.1 _ _ _ hS') k_L_106_5 dL_law_1000 rfl rfl (fun _ h => by cases h; exact ⟨mo, _, rfl, MR_k hX.1⟩) (Nat.le_of_ble_eq_true rfl) ⟨Nat.le_of_ble_eq_true rfl, Nat.le_of_ble_eq_true rfl⟩ ⟨Nat.le_refl _, Nat.le_refl _⟩ (fun _ _ _ h => h) (l_ci fun r2 M2 p2 => ?_)
  obtain ⟨rfl, hl2⟩ := li_m hX (ok_carry hS _ _ _) (by have p3 := p2; rw [hX.2.1] at p3; exact p3)
  refine l_icmp_eq F (pc := 1003) 1747 dL_law_1003 rfl (fun _ => ?_) (fun hno => False.elim (hno (by first | rfl | (rw [hX.2.1]) | (show _ = _; rw [hX.2.1]))))
  exact hnx M2 hl2
theorem law_21 {Ω : OM} {l : Launch} {p : Program} {e : Env} {s : State} {m : MethodId} {args : Array Value} {below : List Frame} {meth : Method} {c : Code} (F : Fx Ω GL l p s m args meth c) {M : PM} {xo mo j n : Nat} (hL : Ω.2.2.2.2 7 ≤ 384) (hj6 : 6 * j + 5 < Ω.2.2.2.2 7) (hl : LI M xo mo)
    (hnx : ∀ M', LI M' xo mo → WL Ω l p e s m args below meth c GL (2773 * n) (19897 * n) M' 1747 [some (.ref (Ω.2.2.2.2 6)), some (.ref xo), some (.ref mo), some (.int (nI (6 * j)))] []) : WL Ω l p e s m args below meth c GL (2773 * (n + 1)) (19897 * (n + 1)) M 1008 [some (.ref (Ω.2.2.2.2 6)), some (.ref xo), some (.ref mo), some (.int (nI (6 * j)))] [] := by
  obtain ⟨hm, hS, wa, hx⟩ := hl
  refine l_aload_n F (pc := 1008) dL_law_1008 rfl ?_
  refine l_aload_n F (pc := 1009) dL_law_1009 rfl ?_
  refine l_iload_n F (pc := 1010) dL_law_1010 rfl ?_
  refine l_iconst F (pc := 1011) (v := 1) dL_law_1011 (by decide) ?_
  refine l_iadd F (pc := 1012) dL_law_1012 ?_
  refine l_scr F (pc := 1013) dL_law_1013 (scr_in hj6 hL (by decide)) ?_
  refine l_aload_n F (pc := 1014) dL_law_1014 rfl ?_
  refine l_iload_n F (pc := 1015) dL_law_1015 rfl ?_
  refine l_iconst F (pc := 1016) (v := 2) dL_law_1016 (by decide) ?_
  refine l_iadd F (pc := 1017) dL_law_1017 ?_
  refine l_scr F (pc := 1018) dL_law_1018 (scr_in hj6 hL (by decide)) ?_
  refine l_aload_n F (pc := 1019) dL_law_1019 rfl ?_
  refine l_iload_n F (pc := 1020) dL_law_1020 rfl ?_
  refine l_iconst F (pc := 1021) (v := 3) dL_law_1021 (by decide) ?_
  refine l_iadd F (pc := 1022) dL_law_1022 ?_
  refine l_scr F (pc := 1023) dL_law_1023 (scr_in hj6 hL (by decide)) ?_
  refine l_call F (pc := 1024) (bc' := 2773 * n) (bs' := 19897 * n) (vs := [.ref xo, .int _, .int _, .int _]) (ct_X0_judge hx _ _ _ hS) k_L_107_0 dL_law_1024 rfl rfl (fun _ h => by cases h; exact ⟨xo, _, rfl, hx.1.2.1⟩) (Nat.le_of_ble_eq_true rfl) ⟨Nat.le_of_ble_eq_true rfl, Nat.le_of_ble_eq_true rfl⟩ ⟨by show 2773 * n + 22 ≤ 2773 * (n + 1); omega, by show 19897 * n + 1300 ≤ 19897 * (n + 1); omega⟩ (fun _ _ _ h => h) (l_ci fun r1 M1 p1 => ?_)
  obtain ⟨rfl, hX⟩ := li_x hm p1
  have hS' : OkS (sS (mI M1) (mL M1) mo).1 := by rw [hX.2.1]; exact hS
  refine l_aload_n F (pc := 1027) dL_law_1027 rfl ?_
  refine l_aload_n F (pc := 1028) dL_law_1028 rfl ?_
  refine l_iload_n F (pc := 1029) dL_law_1029 rfl ?_
  refine l_iconst F (pc := 1030) (v := 1) dL_law_1030 (by decide) ?_
  refine l_iadd F (pc := 1031) dL_law_1031 ?_
  refine l_scr F (pc := 1032) dL_law_1032 (scr_in hj6 hL (by decide)) ?_
  refine l_aload_n F (pc := 1033) dL_law_1033 rfl ?_
  refine l_iload_n F (pc := 1034) dL_law_1034 rfl ?_
  refine l_iconst F (pc := 1035) (v := 2) dL_law_1035 (by decide) ?_
  refine l_iadd F (pc := 1036) dL_law_1036 ?_
  refine l_scr F (pc := 1037) dL_law_1037 (scr_in hj6 hL (by decide)) ?_
  refine l_aload_n F (pc := 1038) dL_law_1038 rfl ?_
  refine l_iload_n F (pc := 1039) dL_law_1039 rfl ?_
  refine l_iconst F (pc := 1040) (v := 3) dL_law_1040 (by decide) ?_
  refine l_iadd F (pc := 1041) dL_law_1041 ?_
  refine l_scr F (pc := 1042) dL_law_1042 (scr_in hj6 hL (by decide)) ?_
  refine l_call F (pc := 1043) (bc' := 2773 * n) (bs' := 19897 * n) (vs := [.ref mo, .int _, .int _, .int _]) (ct_X5_judge (M0 := M1) (I := mI M1) (L := mL M1) hX.1 _ _ _ hS') k_L_110_5 dL_law_1043 rfl rfl (fun _ h => by cases h; exact ⟨mo, _, rfl, MR_k hX.1⟩) (Nat.le_of_ble_eq_true rfl) ⟨Nat.le_of_ble_eq_true rfl, Nat.le_of_ble_eq_true rfl⟩ ⟨Nat.le_refl _, Nat.le_refl _⟩ (fun _ _ _ h => h) (l_ci fun r2 M2 p2 => ?_)
  obtain ⟨rfl, hl2⟩ := li_m hX (ok_judge hS _ _ _) (by have p3 := p2; rw [hX.2.1] at p3; exact p3)
  refine l_icmp_eq F (pc := 1046) 1747 dL_law_1046 rfl (fun _ => ?_) (fun hno => False.elim (hno (by first | rfl | (rw [hX.2.1]) | (show _ = _; rw [hX.2.1]))))
  exact hnx M2 hl2
