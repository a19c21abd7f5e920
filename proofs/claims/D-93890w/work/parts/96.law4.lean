/-! THE LAW'S CASES (printed by gen/mk_x93.py) -/
set_option maxRecDepth 100000
theorem law_33 {Ω : OM} {l : Launch} {p : Program} {e : Env} {s : State} {m : MethodId} {args : Array Value} {below : List Frame} {meth : Method} {c : Code} (F : Fx Ω GL l p s m args meth c) {M : PM} {xo mo j n : Nat} (hL : Ω.2.2.2.2 7 ≤ 384) (hj6 : 6 * j + 5 < Ω.2.2.2.2 7) (hl : LI M xo mo)
    (hnx : ∀ M', LI M' xo mo → WL Ω l p e s m args below meth c GL (2773 * n) (19897 * n) M' 1747 [some (.ref (Ω.2.2.2.2 6)), some (.ref xo), some (.ref mo), some (.int (nI (6 * j)))] []) : WL Ω l p e s m args below meth c GL (2773 * (n + 1)) (19897 * (n + 1)) M 1454 [some (.ref (Ω.2.2.2.2 6)), some (.ref xo), some (.ref mo), some (.int (nI (6 * j)))] [] := by
  obtain ⟨hm, hS, wa, hx⟩ := hl
  refine l_aload_n F (pc := 1454) dL_law_1454 rfl ?_
  refine l_aload_n F (pc := 1455) dL_law_1455 rfl ?_
  refine l_iload_n F (pc := 1456) dL_law_1456 rfl ?_
  refine l_iconst F (pc := 1457) (v := 1) dL_law_1457 (by decide) ?_
  refine l_iadd F (pc := 1458) dL_law_1458 ?_
  refine l_scr F (pc := 1459) dL_law_1459 (scr_in hj6 hL (by decide)) ?_
  refine l_aload_n F (pc := 1460) dL_law_1460 rfl ?_
  refine l_iload_n F (pc := 1461) dL_law_1461 rfl ?_
  refine l_iconst F (pc := 1462) (v := 2) dL_law_1462 (by decide) ?_
  refine l_iadd F (pc := 1463) dL_law_1463 ?_
  refine l_scr F (pc := 1464) dL_law_1464 (scr_in hj6 hL (by decide)) ?_
  refine l_aload_n F (pc := 1465) dL_law_1465 rfl ?_
  refine l_iload_n F (pc := 1466) dL_law_1466 rfl ?_
  refine l_iconst F (pc := 1467) (v := 3) dL_law_1467 (by decide) ?_
  refine l_iadd F (pc := 1468) dL_law_1468 ?_
  refine l_scr F (pc := 1469) dL_law_1469 (scr_in hj6 hL (by decide)) ?_
  refine l_call F (pc := 1470) (bc' := 2773 * n) (bs' := 19897 * n) (vs := [.ref xo, .int _, .int _, .int _]) (ct_X0_mean hx _ _ _ hS) k_L_155_0 dL_law_1470 rfl rfl (fun _ h => by cases h; exact ⟨xo, _, rfl, hx.1.2.1⟩) (Nat.le_of_ble_eq_true rfl) ⟨Nat.le_of_ble_eq_true rfl, Nat.le_of_ble_eq_true rfl⟩ ⟨by show 2773 * n + 2 ≤ 2773 * (n + 1); omega, by show 19897 * n + 14 ≤ 19897 * (n + 1); omega⟩ (fun _ _ _ h => h) (l_ci fun r1 M1 p1 => ?_)
  obtain ⟨rfl, hX⟩ := li_x hm p1
  have hS' : OkS (sS (mI M1) (mL M1) mo).1 := by rw [hX.2.1]; exact hS
  refine l_aload_n F (pc := 1473) dL_law_1473 rfl ?_
  refine l_aload_n F (pc := 1474) dL_law_1474 rfl ?_
  refine l_iload_n F (pc := 1475) dL_law_1475 rfl ?_
  refine l_iconst F (pc := 1476) (v := 1) dL_law_1476 (by decide) ?_
  refine l_iadd F (pc := 1477) dL_law_1477 ?_
  refine l_scr F (pc := 1478) dL_law_1478 (scr_in hj6 hL (by decide)) ?_
  refine l_aload_n F (pc := 1479) dL_law_1479 rfl ?_
  refine l_iload_n F (pc := 1480) dL_law_1480 rfl ?_
  refine l_iconst F (pc := 1481) (v := 2) dL_law_1481 (by decide) ?_
  refine l_iadd F (pc := 1482) dL_law_1482 ?_
  refine l_scr F (pc := 1483) dL_law_1483 (scr_in hj6 hL (by decide)) ?_
  refine l_aload_n F (pc := 1484) dL_law_1484 rfl ?_
  refine l_iload_n F (pc := 1485) dL_law_1485 rfl ?_
  refine l_iconst F (pc := 1486) (v := 3) dL_law_1486 (by decide) ?_
  refine l_iadd F (pc := 1487) dL_law_1487 ?_
  refine l_scr F (pc := 1488) dL_law_1488 (scr_in hj6 hL (by decide)) ?_
  refine l_call F (pc := 1489) (bc' := 2773 * n) (bs' := 19897 * n) (vs := [.ref mo, .int _, .int _, .int _]) (ct_X5_mean (M0 := M1) (I := mI M1) (L := mL M1) hX.1 _ _ _ hS') k_L_158_5 dL_law_1489 rfl rfl (fun _ h => by cases h; exact ⟨mo, _, rfl, MR_k hX.1⟩) (Nat.le_of_ble_eq_true rfl) ⟨Nat.le_of_ble_eq_true rfl, Nat.le_of_ble_eq_true rfl⟩ ⟨Nat.le_refl _, Nat.le_refl _⟩ (fun _ _ _ h => h) (l_ci fun r2 M2 p2 => ?_)
  obtain ⟨rfl, hl2⟩ := li_m hX (ok_mean hS _ _ _) (by have p3 := p2; rw [hX.2.1] at p3; exact p3)
  refine l_icmp_eq F (pc := 1492) 1747 dL_law_1492 rfl (fun _ => ?_) (fun hno => False.elim (hno (by first | rfl | (rw [hX.2.1]) | (show _ = _; rw [hX.2.1]))))
  exact hnx M2 hl2
theorem law_34 {Ω : OM} {l : Launch} {p : Program} {e : Env} {s : State} {m : MethodId} {args : Array Value} {below : List Frame} {meth : Method} {c : Code} (F : Fx Ω GL l p s m args meth c) {M : PM} {xo mo j n : Nat} (hL : Ω.2.2.2.2 7 ≤ 384) (hj6 : 6 * j + 5 < Ω.2.2.2.2 7) (hl : LI M xo mo)
    (hnx : ∀ M', LI M' xo mo → WL Ω l p e s m args below meth c GL (2773 * n) (19897 * n) M' 1747 [some (.ref (Ω.2.2.2.2 6)), some (.ref xo), some (.ref mo), some (.int (nI (6 * j)))] []) : WL Ω l p e s m args below meth c GL (2773 * (n + 1)) (19897 * (n + 1)) M 1497 [some (.ref (Ω.2.2.2.2 6)), some (.ref xo), some (.ref mo), some (.int (nI (6 * j)))] [] := by
  obtain ⟨hm, hS, wa, hx⟩ := hl
  refine l_aload_n F (pc := 1497) dL_law_1497 rfl ?_
  refine l_aload_n F (pc := 1498) dL_law_1498 rfl ?_
  refine l_iload_n F (pc := 1499) dL_law_1499 rfl ?_
  refine l_iconst F (pc := 1500) (v := 1) dL_law_1500 (by decide) ?_
  refine l_iadd F (pc := 1501) dL_law_1501 ?_
  refine l_scr F (pc := 1502) dL_law_1502 (scr_in hj6 hL (by decide)) ?_
  refine l_aload_n F (pc := 1503) dL_law_1503 rfl ?_
  refine l_iload_n F (pc := 1504) dL_law_1504 rfl ?_
  refine l_iconst F (pc := 1505) (v := 2) dL_law_1505 (by decide) ?_
  refine l_iadd F (pc := 1506) dL_law_1506 ?_
  refine l_scr F (pc := 1507) dL_law_1507 (scr_in hj6 hL (by decide)) ?_
  refine l_call F (pc := 1508) (bc' := 2773 * n) (bs' := 19897 * n) (vs := [.ref xo, .int _, .int _]) (ct_X0_cast hx _ _ hS) k_L_159_0 dL_law_1508 rfl rfl (fun _ h => by cases h; exact ⟨xo, _, rfl, hx.1.2.1⟩) (Nat.le_of_ble_eq_true rfl) ⟨Nat.le_of_ble_eq_true rfl, Nat.le_of_ble_eq_true rfl⟩ ⟨by show 2773 * n + 1 ≤ 2773 * (n + 1); omega, by show 19897 * n + 7 ≤ 19897 * (n + 1); omega⟩ (fun _ _ _ h => h) (l_ci fun r1 M1 p1 => ?_)
  obtain ⟨rfl, hX⟩ := li_x hm p1
  have hS' : OkS (sS (mI M1) (mL M1) mo).1 := by rw [hX.2.1]; exact hS
  refine l_aload_n F (pc := 1511) dL_law_1511 rfl ?_
  refine l_aload_n F (pc := 1512) dL_law_1512 rfl ?_
  refine l_iload_n F (pc := 1513) dL_law_1513 rfl ?_
  refine l_iconst F (pc := 1514) (v := 1) dL_law_1514 (by decide) ?_
  refine l_iadd F (pc := 1515) dL_law_1515 ?_
  refine l_scr F (pc := 1516) dL_law_1516 (scr_in hj6 hL (by decide)) ?_
  refine l_aload_n F (pc := 1517) dL_law_1517 rfl ?_
  refine l_iload_n F (pc := 1518) dL_law_1518 rfl ?_
  refine l_iconst F (pc := 1519) (v := 2) dL_law_1519 (by decide) ?_
  refine l_iadd F (pc := 1520) dL_law_1520 ?_
  refine l_scr F (pc := 1521) dL_law_1521 (scr_in hj6 hL (by decide)) ?_
  refine l_call F (pc := 1522) (bc' := 2773 * n) (bs' := 19897 * n) (vs := [.ref mo, .int _, .int _]) (ct_X5_cast (M0 := M1) (I := mI M1) (L := mL M1) hX.1 _ _ hS') k_L_162_5 dL_law_1522 rfl rfl (fun _ h => by cases h; exact ⟨mo, _, rfl, MR_k hX.1⟩) (Nat.le_of_ble_eq_true rfl) ⟨Nat.le_of_ble_eq_true rfl, Nat.le_of_ble_eq_true rfl⟩ ⟨Nat.le_refl _, Nat.le_refl _⟩ (fun _ _ _ h => h) (l_ci fun r2 M2 p2 => ?_)
  obtain ⟨rfl, hl2⟩ := li_m hX (ok_cast hS _ _) (by have p3 := p2; rw [hX.2.1] at p3; exact p3)
  refine l_icmp_eq F (pc := 1525) 1747 dL_law_1525 rfl (fun _ => ?_) (fun hno => False.elim (hno (by first | rfl | (rw [hX.2.1]) | (show _ = _; rw [hX.2.1]))))
  exact hnx M2 hl2
theorem law_35 {Ω : OM} {l : Launch} {p : Program} {e : Env} {s : State} {m : MethodId} {args : Array Value} {below : List Frame} {meth : Method} {c : Code} (F : Fx Ω GL l p s m args meth c) {M : PM} {xo mo j n : Nat} (hL : Ω.2.2.2.2 7 ≤ 384) (hj6 : 6 * j + 5 < Ω.2.2.2.2 7) (hl : LI M xo mo)
    (hnx : ∀ M', LI M' xo mo → WL Ω l p e s m args below meth c GL (2773 * n) (19897 * n) M' 1747 [some (.ref (Ω.2.2.2.2 6)), some (.ref xo), some (.ref mo), some (.int (nI (6 * j)))] []) : WL Ω l p e s m args below meth c GL (2773 * (n + 1)) (19897 * (n + 1)) M 1530 [some (.ref (Ω.2.2.2.2 6)), some (.ref xo), some (.ref mo), some (.int (nI (6 * j)))] [] := by
  obtain ⟨hm, hS, wa, hx⟩ := hl
  refine l_aload_n F (pc := 1530) dL_law_1530 rfl ?_
  refine l_aload_n F (pc := 1531) dL_law_1531 rfl ?_
  refine l_iload_n F (pc := 1532) dL_law_1532 rfl ?_
  refine l_iconst F (pc := 1533) (v := 1) dL_law_1533 (by decide) ?_
  refine l_iadd F (pc := 1534) dL_law_1534 ?_
  refine l_scr F (pc := 1535) dL_law_1535 (scr_in hj6 hL (by decide)) ?_
  refine l_aload_n F (pc := 1536) dL_law_1536 rfl ?_
  refine l_iload_n F (pc := 1537) dL_law_1537 rfl ?_
  refine l_iconst F (pc := 1538) (v := 2) dL_law_1538 (by decide) ?_
  refine l_iadd F (pc := 1539) dL_law_1539 ?_
  refine l_scr F (pc := 1540) dL_law_1540 (scr_in hj6 hL (by decide)) ?_
  refine l_aload_n F (pc := 1541) dL_law_1541 rfl ?_
  refine l_iload_n F (pc := 1542) dL_law_1542 rfl ?_
  refine l_iconst F (pc := 1543) (v := 3) dL_law_1543 (by decide) ?_
  refine l_iadd F (pc := 1544) dL_law_1544 ?_
  refine l_scr F (pc := 1545) dL_law_1545 (scr_in hj6 hL (by decide)) ?_
  refine l_call F (pc := 1546) (bc' := 2773 * n) (bs' := 19897 * n) (vs := [.ref xo, .int _, .int _, .int _]) (ct_X0_toss hx _ _ _ hS) k_L_163_0 dL_law_1546 rfl rfl (fun _ h => by cases h; exact ⟨xo, _, rfl, hx.1.2.1⟩) (Nat.le_of_ble_eq_true rfl) ⟨Nat.le_of_ble_eq_true rfl, Nat.le_of_ble_eq_true rfl⟩ ⟨by show 2773 * n + 2 ≤ 2773 * (n + 1); omega, by show 19897 * n + 14 ≤ 19897 * (n + 1); omega⟩ (fun _ _ _ h => h) (l_ci fun r1 M1 p1 => ?_)
  obtain ⟨rfl, hX⟩ := li_x hm p1
  have hS' : OkS (sS (mI M1) (mL M1) mo).1 := by rw [hX.2.1]; exact hS
  refine l_aload_n F (pc := 1549) dL_law_1549 rfl ?_
  refine l_aload_n F (pc := 1550) dL_law_1550 rfl ?_
  refine l_iload_n F (pc := 1551) dL_law_1551 rfl ?_
  refine l_iconst F (pc := 1552) (v := 1) dL_law_1552 (by decide) ?_
  refine l_iadd F (pc := 1553) dL_law_1553 ?_
  refine l_scr F (pc := 1554) dL_law_1554 (scr_in hj6 hL (by decide)) ?_
  refine l_aload_n F (pc := 1555) dL_law_1555 rfl ?_
  refine l_iload_n F (pc := 1556) dL_law_1556 rfl ?_
  refine l_iconst F (pc := 1557) (v := 2) dL_law_1557 (by decide) ?_
  refine l_iadd F (pc := 1558) dL_law_1558 ?_
  refine l_scr F (pc := 1559) dL_law_1559 (scr_in hj6 hL (by decide)) ?_
  refine l_aload_n F (pc := 1560) dL_law_1560 rfl ?_
  refine l_iload_n F (pc := 1561) dL_law_1561 rfl ?_
  refine l_iconst F (pc := 1562) (v := 3) dL_law_1562 (by decide) ?_
  refine l_iadd F (pc := 1563) dL_law_1563 ?_
  refine l_scr F (pc := 1564) dL_law_1564 (scr_in hj6 hL (by decide)) ?_
  refine l_call F (pc := 1565) (bc' := 2773 * n) (bs' := 19897 * n) (vs := [.ref mo, .int _, .int _, .int _]) (ct_X5_toss (M0 := M1) (I := mI M1) (L := mL M1) hX.1 _ _ _ hS') k_L_166_5 dL_law_1565 rfl rfl (fun _ h => by cases h; exact ⟨mo, _, rfl, MR_k hX.1⟩) (Nat.le_of_ble_eq_true rfl) ⟨Nat.le_of_ble_eq_true rfl, Nat.le_of_ble_eq_true rfl⟩ ⟨Nat.le_refl _, Nat.le_refl _⟩ (fun _ _ _ h => h) (l_ci fun r2 M2 p2 => ?_)
  obtain ⟨rfl, hl2⟩ := li_m hX (ok_toss hS _ _ _) (by have p3 := p2; rw [hX.2.1] at p3; exact p3)
  refine l_icmp_eq F (pc := 1568) 1747 dL_law_1568 rfl (fun _ => ?_) (fun hno => False.elim (hno (by first | rfl | (rw [hX.2.1]) | (show _ = _; rw [hX.2.1]))))
  exact hnx M2 hl2
theorem law_36 {Ω : OM} {l : Launch} {p : Program} {e : Env} {s : State} {m : MethodId} {args : Array Value} {below : List Frame} {meth : Method} {c : Code} (F : Fx Ω GL l p s m args meth c) {M : PM} {xo mo j n : Nat} (hL : Ω.2.2.2.2 7 ≤ 384) (hj6 : 6 * j + 5 < Ω.2.2.2.2 7) (hl : LI M xo mo)
    (hnx : ∀ M', LI M' xo mo → WL Ω l p e s m args below meth c GL (2773 * n) (19897 * n) M' 1747 [some (.ref (Ω.2.2.2.2 6)), some (.ref xo), some (.ref mo), some (.int (nI (6 * j)))] []) : WL Ω l p e s m args below meth c GL (2773 * (n + 1)) (19897 * (n + 1)) M 1573 [some (.ref (Ω.2.2.2.2 6)), some (.ref xo), some (.ref mo), some (.int (nI (6 * j)))] [] := by
  obtain ⟨hm, hS, wa, hx⟩ := hl
  refine l_aload_n F (pc := 1573) dL_law_1573 rfl ?_
  refine l_aload_n F (pc := 1574) dL_law_1574 rfl ?_
  refine l_iload_n F (pc := 1575) dL_law_1575 rfl ?_
  refine l_iconst F (pc := 1576) (v := 1) dL_law_1576 (by decide) ?_
  refine l_iadd F (pc := 1577) dL_law_1577 ?_
  refine l_scr F (pc := 1578) dL_law_1578 (scr_in hj6 hL (by decide)) ?_
  refine l_call F (pc := 1579) (bc' := 2773 * n) (bs' := 19897 * n) (vs := [.ref xo, .int _]) (ct_X0_part hx _ hS) k_L_167_0 dL_law_1579 rfl rfl (fun _ h => by cases h; exact ⟨xo, _, rfl, hx.1.2.1⟩) (Nat.le_of_ble_eq_true rfl) ⟨Nat.le_of_ble_eq_true rfl, Nat.le_of_ble_eq_true rfl⟩ ⟨by show 2773 * n + 11 ≤ 2773 * (n + 1); omega, by show 19897 * n + 45 ≤ 19897 * (n + 1); omega⟩ (fun _ _ _ h => h) (l_ci fun r1 M1 p1 => ?_)
  obtain ⟨rfl, hX⟩ := li_x hm p1
  have hS' : OkS (sS (mI M1) (mL M1) mo).1 := by rw [hX.2.1]; exact hS
  refine l_aload_n F (pc := 1582) dL_law_1582 rfl ?_
  refine l_aload_n F (pc := 1583) dL_law_1583 rfl ?_
  refine l_iload_n F (pc := 1584) dL_law_1584 rfl ?_
  refine l_iconst F (pc := 1585) (v := 1) dL_law_1585 (by decide) ?_
  refine l_iadd F (pc := 1586) dL_law_1586 ?_
  refine l_scr F (pc := 1587) dL_law_1587 (scr_in hj6 hL (by decide)) ?_
  refine l_call F (pc := 1588) (bc' := 2773 * n) (bs' := 19897 * n) (vs := [.ref mo, .int _]) (ct_X5_part (M0 := M1) (I := mI M1) (L := mL M1) hX.1 _ hS') k_L_170_5 dL_law_1588 rfl rfl (fun _ h => by cases h; exact ⟨mo, _, rfl, MR_k hX.1⟩) (Nat.le_of_ble_eq_true rfl) ⟨Nat.le_of_ble_eq_true rfl, Nat.le_of_ble_eq_true rfl⟩ ⟨Nat.le_refl _, Nat.le_refl _⟩ (fun _ _ _ h => h) (l_ci fun r2 M2 p2 => ?_)
  obtain ⟨rfl, hl2⟩ := li_m hX (ok_part hS _) (by have p3 := p2; rw [hX.2.1] at p3; exact p3)
  refine l_icmp_eq F (pc := 1591) 1747 dL_law_1591 rfl (fun _ => ?_) (fun hno => False.elim (hno (by first | rfl | (rw [hX.2.1]) | (show _ = _; rw [hX.2.1]))))
  exact hnx M2 hl2
theorem law_37 {Ω : OM} {l : Launch} {p : Program} {e : Env} {s : State} {m : MethodId} {args : Array Value} {below : List Frame} {meth : Method} {c : Code} (F : Fx Ω GL l p s m args meth c) {M : PM} {xo mo j n : Nat} (hL : Ω.2.2.2.2 7 ≤ 384) (hj6 : 6 * j + 5 < Ω.2.2.2.2 7) (hl : LI M xo mo)
    (hnx : ∀ M', LI M' xo mo → WL Ω l p e s m args below meth c GL (2773 * n) (19897 * n) M' 1747 [some (.ref (Ω.2.2.2.2 6)), some (.ref xo), some (.ref mo), some (.int (nI (6 * j)))] []) : WL Ω l p e s m args below meth c GL (2773 * (n + 1)) (19897 * (n + 1)) M 1596 [some (.ref (Ω.2.2.2.2 6)), some (.ref xo), some (.ref mo), some (.int (nI (6 * j)))] [] := by
  obtain ⟨hm, hS, wa, hx⟩ := hl
  refine l_aload_n F (pc := 1596) dL_law_1596 rfl ?_
  refine l_call F (pc := 1597) (bc' := 2773 * n) (bs' := 19897 * n) (vs := [.ref xo]) (ct_X0_night hx hS) k_L_171_0 dL_law_1597 rfl rfl (fun _ h => by cases h; exact ⟨xo, _, rfl, hx.1.2.1⟩) (Nat.le_of_ble_eq_true rfl) ⟨Nat.le_of_ble_eq_true rfl, Nat.le_of_ble_eq_true rfl⟩ ⟨by show 2773 * n + 0 ≤ 2773 * (n + 1); omega, by show 19897 * n + 0 ≤ 19897 * (n + 1); omega⟩ (fun _ _ _ h => h) (l_ci fun r1 M1 p1 => ?_)
  obtain ⟨rfl, hX⟩ := li_x hm p1
  have hS' : OkS (sS (mI M1) (mL M1) mo).1 := by rw [hX.2.1]; exact hS
  refine l_aload_n F (pc := 1600) dL_law_1600 rfl ?_
  refine l_call F (pc := 1601) (bc' := 2773 * n) (bs' := 19897 * n) (vs := [.ref mo]) (ct_X5_night (M0 := M1) (I := mI M1) (L := mL M1) hX.1 hS') k_L_174_5 dL_law_1601 rfl rfl (fun _ h => by cases h; exact ⟨mo, _, rfl, MR_k hX.1⟩) (Nat.le_of_ble_eq_true rfl) ⟨Nat.le_of_ble_eq_true rfl, Nat.le_of_ble_eq_true rfl⟩ ⟨Nat.le_refl _, Nat.le_refl _⟩ (fun _ _ _ h => h) (l_ci fun r2 M2 p2 => ?_)
  obtain ⟨rfl, hl2⟩ := li_m hX (ok_night hS ) (by have p3 := p2; rw [hX.2.1] at p3; exact p3)
  refine l_icmp_eq F (pc := 1604) 1747 dL_law_1604 rfl (fun _ => ?_) (fun hno => False.elim (hno (by first | rfl | (rw [hX.2.1]) | (show _ = _; rw [hX.2.1]))))
  exact hnx M2 hl2
theorem law_38 {Ω : OM} {l : Launch} {p : Program} {e : Env} {s : State} {m : MethodId} {args : Array Value} {below : List Frame} {meth : Method} {c : Code} (F : Fx Ω GL l p s m args meth c) {M : PM} {xo mo j n : Nat} (hL : Ω.2.2.2.2 7 ≤ 384) (hj6 : 6 * j + 5 < Ω.2.2.2.2 7) (hl : LI M xo mo)
    (hnx : ∀ M', LI M' xo mo → WL Ω l p e s m args below meth c GL (2773 * n) (19897 * n) M' 1747 [some (.ref (Ω.2.2.2.2 6)), some (.ref xo), some (.ref mo), some (.int (nI (6 * j)))] []) : WL Ω l p e s m args below meth c GL (2773 * (n + 1)) (19897 * (n + 1)) M 1609 [some (.ref (Ω.2.2.2.2 6)), some (.ref xo), some (.ref mo), some (.int (nI (6 * j)))] [] := by
  obtain ⟨hm, hS, wa, hx⟩ := hl
  refine l_aload_n F (pc := 1609) dL_law_1609 rfl ?_
  refine l_aload_n F (pc := 1610) dL_law_1610 rfl ?_
  refine l_iload_n F (pc := 1611) dL_law_1611 rfl ?_
  refine l_iconst F (pc := 1612) (v := 1) dL_law_1612 (by decide) ?_
  refine l_iadd F (pc := 1613) dL_law_1613 ?_
  refine l_scr F (pc := 1614) dL_law_1614 (scr_in hj6 hL (by decide)) ?_
  refine l_call F (pc := 1615) (bc' := 2773 * n) (bs' := 19897 * n) (vs := [.ref xo, .int _]) (ct_X0_seed hx _ hS) k_L_175_0 dL_law_1615 rfl rfl (fun _ h => by cases h; exact ⟨xo, _, rfl, hx.1.2.1⟩) (Nat.le_of_ble_eq_true rfl) ⟨Nat.le_of_ble_eq_true rfl, Nat.le_of_ble_eq_true rfl⟩ ⟨by show 2773 * n + 0 ≤ 2773 * (n + 1); omega, by show 19897 * n + 0 ≤ 19897 * (n + 1); omega⟩ (fun _ _ _ h => h) (l_ci fun r1 M1 p1 => ?_)
  obtain ⟨rfl, hX⟩ := li_x hm p1
  have hS' : OkS (sS (mI M1) (mL M1) mo).1 := by rw [hX.2.1]; exact hS
  refine l_aload_n F (pc := 1618) dL_law_1618 rfl ?_
  refine l_aload_n F (pc := 1619) dL_law_1619 rfl ?_
  refine l_iload_n F (pc := 1620) dL_law_1620 rfl ?_
  refine l_iconst F (pc := 1621) (v := 1) dL_law_1621 (by decide) ?_
  refine l_iadd F (pc := 1622) dL_law_1622 ?_
  refine l_scr F (pc := 1623) dL_law_1623 (scr_in hj6 hL (by decide)) ?_
  refine l_call F (pc := 1624) (bc' := 2773 * n) (bs' := 19897 * n) (vs := [.ref mo, .int _]) (ct_X5_seed (M0 := M1) (I := mI M1) (L := mL M1) hX.1 _ hS') k_L_178_5 dL_law_1624 rfl rfl (fun _ h => by cases h; exact ⟨mo, _, rfl, MR_k hX.1⟩) (Nat.le_of_ble_eq_true rfl) ⟨Nat.le_of_ble_eq_true rfl, Nat.le_of_ble_eq_true rfl⟩ ⟨Nat.le_refl _, Nat.le_refl _⟩ (fun _ _ _ h => h) (l_ci fun r2 M2 p2 => ?_)
  obtain ⟨rfl, hl2⟩ := li_m hX (ok_seed hS _) (by have p3 := p2; rw [hX.2.1] at p3; exact p3)
  refine l_icmp_eq F (pc := 1627) 1747 dL_law_1627 rfl (fun _ => ?_) (fun hno => False.elim (hno (by first | rfl | (rw [hX.2.1]) | (show _ = _; rw [hX.2.1]))))
  exact hnx M2 hl2
theorem law_39 {Ω : OM} {l : Launch} {p : Program} {e : Env} {s : State} {m : MethodId} {args : Array Value} {below : List Frame} {meth : Method} {c : Code} (F : Fx Ω GL l p s m args meth c) {M : PM} {xo mo j n : Nat} (hL : Ω.2.2.2.2 7 ≤ 384) (hj6 : 6 * j + 5 < Ω.2.2.2.2 7) (hl : LI M xo mo)
    (hnx : ∀ M', LI M' xo mo → WL Ω l p e s m args below meth c GL (2773 * n) (19897 * n) M' 1747 [some (.ref (Ω.2.2.2.2 6)), some (.ref xo), some (.ref mo), some (.int (nI (6 * j)))] []) : WL Ω l p e s m args below meth c GL (2773 * (n + 1)) (19897 * (n + 1)) M 1632 [some (.ref (Ω.2.2.2.2 6)), some (.ref xo), some (.ref mo), some (.int (nI (6 * j)))] [] := by
  obtain ⟨hm, hS, wa, hx⟩ := hl
  refine l_aload_n F (pc := 1632) dL_law_1632 rfl ?_
  refine l_aload_n F (pc := 1633) dL_law_1633 rfl ?_
  refine l_iload_n F (pc := 1634) dL_law_1634 rfl ?_
  refine l_iconst F (pc := 1635) (v := 1) dL_law_1635 (by decide) ?_
  refine l_iadd F (pc := 1636) dL_law_1636 ?_
  refine l_scr F (pc := 1637) dL_law_1637 (scr_in hj6 hL (by decide)) ?_
  refine l_aload_n F (pc := 1638) dL_law_1638 rfl ?_
  refine l_iload_n F (pc := 1639) dL_law_1639 rfl ?_
  refine l_iconst F (pc := 1640) (v := 2) dL_law_1640 (by decide) ?_
  refine l_iadd F (pc := 1641) dL_law_1641 ?_
  refine l_scr F (pc := 1642) dL_law_1642 (scr_in hj6 hL (by decide)) ?_
  refine l_aload_n F (pc := 1643) dL_law_1643 rfl ?_
  refine l_iload_n F (pc := 1644) dL_law_1644 rfl ?_
  refine l_iconst F (pc := 1645) (v := 3) dL_law_1645 (by decide) ?_
  refine l_iadd F (pc := 1646) dL_law_1646 ?_
  refine l_scr F (pc := 1647) dL_law_1647 (scr_in hj6 hL (by decide)) ?_
  refine l_call F (pc := 1648) (bc' := 2773 * n) (bs' := 19897 * n) (vs := [.ref xo, .int _, .int _, .int _]) (ct_X0_act hx _ _ _ hS) k_L_179_0 dL_law_1648 rfl rfl (fun _ h => by cases h; exact ⟨xo, _, rfl, hx.1.2.1⟩) (Nat.le_of_ble_eq_true rfl) ⟨Nat.le_of_ble_eq_true rfl, Nat.le_of_ble_eq_true rfl⟩ ⟨by show 2773 * n + 0 ≤ 2773 * (n + 1); omega, by show 19897 * n + 0 ≤ 19897 * (n + 1); omega⟩ (fun _ _ _ h => h) (l_ci fun r1 M1 p1 => ?_)
  obtain ⟨rfl, hX⟩ := li_x hm p1
  have hS' : OkS (sS (mI M1) (mL M1) mo).1 := by rw [hX.2.1]; exact hS
  refine l_aload_n F (pc := 1651) dL_law_1651 rfl ?_
  refine l_aload_n F (pc := 1652) dL_law_1652 rfl ?_
  refine l_iload_n F (pc := 1653) dL_law_1653 rfl ?_
  refine l_iconst F (pc := 1654) (v := 1) dL_law_1654 (by decide) ?_
  refine l_iadd F (pc := 1655) dL_law_1655 ?_
  refine l_scr F (pc := 1656) dL_law_1656 (scr_in hj6 hL (by decide)) ?_
  refine l_aload_n F (pc := 1657) dL_law_1657 rfl ?_
  refine l_iload_n F (pc := 1658) dL_law_1658 rfl ?_
  refine l_iconst F (pc := 1659) (v := 2) dL_law_1659 (by decide) ?_
  refine l_iadd F (pc := 1660) dL_law_1660 ?_
  refine l_scr F (pc := 1661) dL_law_1661 (scr_in hj6 hL (by decide)) ?_
  refine l_aload_n F (pc := 1662) dL_law_1662 rfl ?_
  refine l_iload_n F (pc := 1663) dL_law_1663 rfl ?_
  refine l_iconst F (pc := 1664) (v := 3) dL_law_1664 (by decide) ?_
  refine l_iadd F (pc := 1665) dL_law_1665 ?_
  refine l_scr F (pc := 1666) dL_law_1666 (scr_in hj6 hL (by decide)) ?_
  refine l_call F (pc := 1667) (bc' := 2773 * n) (bs' := 19897 * n) (vs := [.ref mo, .int _, .int _, .int _]) (ct_X5_act (M0 := M1) (I := mI M1) (L := mL M1) hX.1 _ _ _ hS') k_L_182_5 dL_law_1667 rfl rfl (fun _ h => by cases h; exact ⟨mo, _, rfl, MR_k hX.1⟩) (Nat.le_of_ble_eq_true rfl) ⟨Nat.le_of_ble_eq_true rfl, Nat.le_of_ble_eq_true rfl⟩ ⟨Nat.le_refl _, Nat.le_refl _⟩ (fun _ _ _ h => h) (l_ci fun r2 M2 p2 => ?_)
  obtain ⟨rfl, hl2⟩ := li_m hX (ok_act hS _ _ _) (by have p3 := p2; rw [hX.2.1] at p3; exact p3)
  refine l_icmp_eq F (pc := 1670) 1747 dL_law_1670 rfl (fun _ => ?_) (fun hno => False.elim (hno (by first | rfl | (rw [hX.2.1]) | (show _ = _; rw [hX.2.1]))))
  exact hnx M2 hl2
theorem law_40 {Ω : OM} {l : Launch} {p : Program} {e : Env} {s : State} {m : MethodId} {args : Array Value} {below : List Frame} {meth : Method} {c : Code} (F : Fx Ω GL l p s m args meth c) {M : PM} {xo mo j n : Nat} (hL : Ω.2.2.2.2 7 ≤ 384) (hj6 : 6 * j + 5 < Ω.2.2.2.2 7) (hl : LI M xo mo)
    (hnx : ∀ M', LI M' xo mo → WL Ω l p e s m args below meth c GL (2773 * n) (19897 * n) M' 1747 [some (.ref (Ω.2.2.2.2 6)), some (.ref xo), some (.ref mo), some (.int (nI (6 * j)))] []) : WL Ω l p e s m args below meth c GL (2773 * (n + 1)) (19897 * (n + 1)) M 1675 [some (.ref (Ω.2.2.2.2 6)), some (.ref xo), some (.ref mo), some (.int (nI (6 * j)))] [] := by
  obtain ⟨hm, hS, wa, hx⟩ := hl
  refine l_aload_n F (pc := 1675) dL_law_1675 rfl ?_
  refine l_aload_n F (pc := 1676) dL_law_1676 rfl ?_
  refine l_iload_n F (pc := 1677) dL_law_1677 rfl ?_
  refine l_iconst F (pc := 1678) (v := 1) dL_law_1678 (by decide) ?_
  refine l_iadd F (pc := 1679) dL_law_1679 ?_
  refine l_scr F (pc := 1680) dL_law_1680 (scr_in hj6 hL (by decide)) ?_
  refine l_call F (pc := 1681) (bc' := 2773 * n) (bs' := 19897 * n) (vs := [.ref xo, .int _]) (ct_X0_trace hx _ hS) k_L_183_0 dL_law_1681 rfl rfl (fun _ h => by cases h; exact ⟨xo, _, rfl, hx.1.2.1⟩) (Nat.le_of_ble_eq_true rfl) ⟨Nat.le_of_ble_eq_true rfl, Nat.le_of_ble_eq_true rfl⟩ ⟨by show 2773 * n + 0 ≤ 2773 * (n + 1); omega, by show 19897 * n + 0 ≤ 19897 * (n + 1); omega⟩ (fun _ _ _ h => h) (l_ci fun r1 M1 p1 => ?_)
  obtain ⟨rfl, hX⟩ := li_x hm p1
  have hS' : OkS (sS (mI M1) (mL M1) mo).1 := by rw [hX.2.1]; exact hS
  refine l_aload_n F (pc := 1684) dL_law_1684 rfl ?_
  refine l_aload_n F (pc := 1685) dL_law_1685 rfl ?_
  refine l_iload_n F (pc := 1686) dL_law_1686 rfl ?_
  refine l_iconst F (pc := 1687) (v := 1) dL_law_1687 (by decide) ?_
  refine l_iadd F (pc := 1688) dL_law_1688 ?_
  refine l_scr F (pc := 1689) dL_law_1689 (scr_in hj6 hL (by decide)) ?_
  refine l_call F (pc := 1690) (bc' := 2773 * n) (bs' := 19897 * n) (vs := [.ref mo, .int _]) (ct_X5_trace (M0 := M1) (I := mI M1) (L := mL M1) hX.1 _ hS') k_L_186_5 dL_law_1690 rfl rfl (fun _ h => by cases h; exact ⟨mo, _, rfl, MR_k hX.1⟩) (Nat.le_of_ble_eq_true rfl) ⟨Nat.le_of_ble_eq_true rfl, Nat.le_of_ble_eq_true rfl⟩ ⟨Nat.le_refl _, Nat.le_refl _⟩ (fun _ _ _ h => h) (l_ci fun r2 M2 p2 => ?_)
  obtain ⟨rfl, e2⟩ := p2
  have e2 : M2 = M1 := e2
  subst e2
  have hl2 := li_u hX hS
  refine l_icmp_eq F (pc := 1693) 1747 dL_law_1693 rfl (fun _ => ?_) (fun hno => False.elim (hno (by first | rfl | (rw [hX.2.1]) | (show _ = _; rw [hX.2.1]))))
  exact hnx M2 hl2
theorem law_41 {Ω : OM} {l : Launch} {p : Program} {e : Env} {s : State} {m : MethodId} {args : Array Value} {below : List Frame} {meth : Method} {c : Code} (F : Fx Ω GL l p s m args meth c) {M : PM} {xo mo j n : Nat} (hL : Ω.2.2.2.2 7 ≤ 384) (hj6 : 6 * j + 5 < Ω.2.2.2.2 7) (hl : LI M xo mo)
    (hnx : ∀ M', LI M' xo mo → WL Ω l p e s m args below meth c GL (2773 * n) (19897 * n) M' 1747 [some (.ref (Ω.2.2.2.2 6)), some (.ref xo), some (.ref mo), some (.int (nI (6 * j)))] []) : WL Ω l p e s m args below meth c GL (2773 * (n + 1)) (19897 * (n + 1)) M 1698 [some (.ref (Ω.2.2.2.2 6)), some (.ref xo), some (.ref mo), some (.int (nI (6 * j)))] [] := by
  obtain ⟨hm, hS, wa, hx⟩ := hl
  refine l_aload_n F (pc := 1698) dL_law_1698 rfl ?_
  refine l_call F (pc := 1699) (bc' := 2773 * n) (bs' := 19897 * n) (vs := [.ref xo]) (ct_X0_image hx hS) k_L_187_0 dL_law_1699 rfl rfl (fun _ h => by cases h; exact ⟨xo, _, rfl, hx.1.2.1⟩) (Nat.le_of_ble_eq_true rfl) ⟨Nat.le_of_ble_eq_true rfl, Nat.le_of_ble_eq_true rfl⟩ ⟨by show 2773 * n + 10 ≤ 2773 * (n + 1); omega, by show 19897 * n + 78 ≤ 19897 * (n + 1); omega⟩ (fun _ _ _ h => h) (l_ci fun r1 M1 p1 => ?_)
  obtain ⟨rfl, hX⟩ := li_x hm p1
  have hS' : OkS (sS (mI M1) (mL M1) mo).1 := by rw [hX.2.1]; exact hS
  refine l_aload_n F (pc := 1702) dL_law_1702 rfl ?_
  refine l_call F (pc := 1703) (bc' := 2773 * n) (bs' := 19897 * n) (vs := [.ref mo]) (ct_X5_image (M0 := M1) (I := mI M1) (L := mL M1) hX.1 hS') k_L_190_5 dL_law_1703 rfl rfl (fun _ h => by cases h; exact ⟨mo, _, rfl, MR_k hX.1⟩) (Nat.le_of_ble_eq_true rfl) ⟨Nat.le_of_ble_eq_true rfl, Nat.le_of_ble_eq_true rfl⟩ ⟨Nat.le_refl _, Nat.le_refl _⟩ (fun _ _ _ h => h) (l_ci fun r2 M2 p2 => ?_)
  obtain ⟨rfl, hl2⟩ := li_m hX (ok_image hS ) (by have p3 := p2; rw [hX.2.1] at p3; exact p3)
  refine l_icmp_eq F (pc := 1706) 1747 dL_law_1706 rfl (fun _ => ?_) (fun hno => False.elim (hno (by first | rfl | (rw [hX.2.1]) | (show _ = _; rw [hX.2.1]))))
  exact hnx M2 hl2
theorem law_42 {Ω : OM} {l : Launch} {p : Program} {e : Env} {s : State} {m : MethodId} {args : Array Value} {below : List Frame} {meth : Method} {c : Code} (F : Fx Ω GL l p s m args meth c) {M : PM} {xo mo j n : Nat} (hL : Ω.2.2.2.2 7 ≤ 384) (hj6 : 6 * j + 5 < Ω.2.2.2.2 7) (hl : LI M xo mo)
    (hnx : ∀ M', LI M' xo mo → WL Ω l p e s m args below meth c GL (2773 * n) (19897 * n) M' 1747 [some (.ref (Ω.2.2.2.2 6)), some (.ref xo), some (.ref mo), some (.int (nI (6 * j)))] []) : WL Ω l p e s m args below meth c GL (2773 * (n + 1)) (19897 * (n + 1)) M 1711 [some (.ref (Ω.2.2.2.2 6)), some (.ref xo), some (.ref mo), some (.int (nI (6 * j)))] [] := by
  obtain ⟨hm, hS, wa, hx⟩ := hl
  refine l_aload_n F (pc := 1711) dL_law_1711 rfl ?_
  refine l_call F (pc := 1712) (bc' := 2773 * n) (bs' := 19897 * n) (vs := [.ref xo]) (ct_X0_restore hx hS) k_L_191_0 dL_law_1712 rfl rfl (fun _ h => by cases h; exact ⟨xo, _, rfl, hx.1.2.1⟩) (Nat.le_of_ble_eq_true rfl) ⟨Nat.le_of_ble_eq_true rfl, Nat.le_of_ble_eq_true rfl⟩ ⟨by show 2773 * n + 11 ≤ 2773 * (n + 1); omega, by show 19897 * n + 85 ≤ 19897 * (n + 1); omega⟩ (fun _ _ _ h => h) (l_ci fun r1 M1 p1 => ?_)
  obtain ⟨rfl, hX⟩ := li_x hm p1
  have hS' : OkS (sS (mI M1) (mL M1) mo).1 := by rw [hX.2.1]; exact hS
  refine l_aload_n F (pc := 1715) dL_law_1715 rfl ?_
  refine l_call F (pc := 1716) (bc' := 2773 * n) (bs' := 19897 * n) (vs := [.ref mo]) (ct_X5_restore (M0 := M1) (I := mI M1) (L := mL M1) hX.1 hS') k_L_194_5 dL_law_1716 rfl rfl (fun _ h => by cases h; exact ⟨mo, _, rfl, MR_k hX.1⟩) (Nat.le_of_ble_eq_true rfl) ⟨Nat.le_of_ble_eq_true rfl, Nat.le_of_ble_eq_true rfl⟩ ⟨Nat.le_refl _, Nat.le_refl _⟩ (fun _ _ _ h => h) (l_ci fun r2 M2 p2 => ?_)
  obtain ⟨rfl, hl2⟩ := li_m hX (ok_restore hS ) (by have p3 := p2; rw [hX.2.1] at p3; exact p3)
  refine l_icmp_eq F (pc := 1719) 1747 dL_law_1719 rfl (fun _ => ?_) (fun hno => False.elim (hno (by first | rfl | (rw [hX.2.1]) | (show _ = _; rw [hX.2.1]))))
  exact hnx M2 hl2
theorem law_43 {Ω : OM} {l : Launch} {p : Program} {e : Env} {s : State} {m : MethodId} {args : Array Value} {below : List Frame} {meth : Method} {c : Code} (F : Fx Ω GL l p s m args meth c) {M : PM} {xo mo j n : Nat} (hL : Ω.2.2.2.2 7 ≤ 384) (hj6 : 6 * j + 5 < Ω.2.2.2.2 7) (hl : LI M xo mo)
    (hnx : ∀ M', LI M' xo mo → WL Ω l p e s m args below meth c GL (2773 * n) (19897 * n) M' 1747 [some (.ref (Ω.2.2.2.2 6)), some (.ref xo), some (.ref mo), some (.int (nI (6 * j)))] []) : WL Ω l p e s m args below meth c GL (2773 * (n + 1)) (19897 * (n + 1)) M 1724 [some (.ref (Ω.2.2.2.2 6)), some (.ref xo), some (.ref mo), some (.int (nI (6 * j)))] [] := by
  obtain ⟨hm, hS, wa, hx⟩ := hl
  refine l_aload_n F (pc := 1724) dL_law_1724 rfl ?_
  refine l_aload_n F (pc := 1725) dL_law_1725 rfl ?_
  refine l_iload_n F (pc := 1726) dL_law_1726 rfl ?_
  refine l_iconst F (pc := 1727) (v := 1) dL_law_1727 (by decide) ?_
  refine l_iadd F (pc := 1728) dL_law_1728 ?_
  refine l_scr F (pc := 1729) dL_law_1729 (scr_in hj6 hL (by decide)) ?_
  refine l_call F (pc := 1730) (bc' := 2773 * n) (bs' := 19897 * n) (vs := [.ref xo, .int _]) (ct_X0_status hx _ hS) k_L_195_0 dL_law_1730 rfl rfl (fun _ h => by cases h; exact ⟨xo, _, rfl, hx.1.2.1⟩) (Nat.le_of_ble_eq_true rfl) ⟨Nat.le_of_ble_eq_true rfl, Nat.le_of_ble_eq_true rfl⟩ ⟨by show 2773 * n + 0 ≤ 2773 * (n + 1); omega, by show 19897 * n + 0 ≤ 19897 * (n + 1); omega⟩ (fun _ _ _ h => h) (l_ci fun r1 M1 p1 => ?_)
  obtain ⟨rfl, hX⟩ := li_x hm p1
  have hS' : OkS (sS (mI M1) (mL M1) mo).1 := by rw [hX.2.1]; exact hS
  refine l_aload_n F (pc := 1733) dL_law_1733 rfl ?_
  refine l_aload_n F (pc := 1734) dL_law_1734 rfl ?_
  refine l_iload_n F (pc := 1735) dL_law_1735 rfl ?_
  refine l_iconst F (pc := 1736) (v := 1) dL_law_1736 (by decide) ?_
  refine l_iadd F (pc := 1737) dL_law_1737 ?_
  refine l_scr F (pc := 1738) dL_law_1738 (scr_in hj6 hL (by decide)) ?_
  refine l_call F (pc := 1739) (bc' := 2773 * n) (bs' := 19897 * n) (vs := [.ref mo, .int _]) (ct_X5_status (M0 := M1) (I := mI M1) (L := mL M1) hX.1 _ hS') k_L_198_5 dL_law_1739 rfl rfl (fun _ h => by cases h; exact ⟨mo, _, rfl, MR_k hX.1⟩) (Nat.le_of_ble_eq_true rfl) ⟨Nat.le_of_ble_eq_true rfl, Nat.le_of_ble_eq_true rfl⟩ ⟨Nat.le_refl _, Nat.le_refl _⟩ (fun _ _ _ h => h) (l_ci fun r2 M2 p2 => ?_)
  obtain ⟨rfl, e2⟩ := p2
  have e2 : M2 = M1 := e2
  subst e2
  have hl2 := li_u hX hS
  refine l_icmp_eq F (pc := 1742) 1747 dL_law_1742 rfl (fun _ => ?_) (fun hno => False.elim (hno (by first | rfl | (rw [hX.2.1]) | (show _ = _; rw [hX.2.1]))))
  exact hnx M2 hl2
