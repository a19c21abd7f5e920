/-! THE LAW'S CASES (printed by gen/mk_x93.py) -/
set_option maxRecDepth 100000
theorem law_22 {Ω : OM} {l : Launch} {p : Program} {e : Env} {s : State} {m : MethodId} {args : Array Value} {below : List Frame} {meth : Method} {c : Code} (F : Fx Ω GL l p s m args meth c) {M : PM} {xo mo j n : Nat} (hL : Ω.2.2.2.2 7 ≤ 384) (hj6 : 6 * j + 5 < Ω.2.2.2.2 7) (hl : LI M xo mo)
    (hnx : ∀ M', LI M' xo mo → WL Ω l p e s m args below meth c GL (2773 * n) (19897 * n) M' 1747 [some (.ref (Ω.2.2.2.2 6)), some (.ref xo), some (.ref mo), some (.int (nI (6 * j)))] []) : WL Ω l p e s m args below meth c GL (2773 * (n + 1)) (19897 * (n + 1)) M 1051 [some (.ref (Ω.2.2.2.2 6)), some (.ref xo), some (.ref mo), some (.int (nI (6 * j)))] [] := by
  obtain ⟨hm, hS, wa, hx⟩ := hl
  refine l_aload_n F (pc := 1051) dL_law_1051 rfl ?_
  refine l_aload_n F (pc := 1052) dL_law_1052 rfl ?_
  refine l_iload_n F (pc := 1053) dL_law_1053 rfl ?_
  refine l_iconst F (pc := 1054) (v := 1) dL_law_1054 (by decide) ?_
  refine l_iadd F (pc := 1055) dL_law_1055 ?_
  refine l_scr F (pc := 1056) dL_law_1056 (scr_in hj6 hL (by decide)) ?_
  refine l_aload_n F (pc := 1057) dL_law_1057 rfl ?_
  refine l_iload_n F (pc := 1058) dL_law_1058 rfl ?_
  refine l_iconst F (pc := 1059) (v := 2) dL_law_1059 (by decide) ?_
  refine l_iadd F (pc := 1060) dL_law_1060 ?_
  refine l_scr F (pc := 1061) dL_law_1061 (scr_in hj6 hL (by decide)) ?_
  refine l_call F (pc := 1062) (bc' := 2773 * n) (bs' := 19897 * n) (vs := [.ref xo, .int _, .int _]) (ct_X0_end hx _ _ hS) k_L_111_0 dL_law_1062 rfl rfl (fun _ h => by cases h; exact ⟨xo, _, rfl, hx.1.2.1⟩) (Nat.le_of_ble_eq_true rfl) ⟨Nat.le_of_ble_eq_true rfl, Nat.le_of_ble_eq_true rfl⟩ ⟨by show 2773 * n + 2 ≤ 2773 * (n + 1); omega, by show 19897 * n + 14 ≤ 19897 * (n + 1); omega⟩ (fun _ _ _ h => h) (l_ci fun r1 M1 p1 => ?_)
  obtain ⟨rfl, hX⟩ := li_x hm p1
  have hS' : OkS (sS (mI M1) (mL M1) mo).1 := by rw [hX.2.1]; exact hS
  refine l_aload_n F (pc := 1065) dL_law_1065 rfl ?_
  refine l_aload_n F (pc := 1066) dL_law_1066 rfl ?_
  refine l_iload_n F (pc := 1067) dL_law_1067 rfl ?_
  refine l_iconst F (pc := 1068) (v := 1) dL_law_1068 (by decide) ?_
  refine l_iadd F (pc := 1069) dL_law_1069 ?_
  refine l_scr F (pc := 1070) dL_law_1070 (scr_in hj6 hL (by decide)) ?_
  refine l_aload_n F (pc := 1071) dL_law_1071 rfl ?_
  refine l_iload_n F (pc := 1072) dL_law_1072 rfl ?_
  refine l_iconst F (pc := 1073) (v := 2) dL_law_1073 (by decide) ?_
  refine l_iadd F (pc := 1074) dL_law_1074 ?_
  refine l_scr F (pc := 1075) dL_law_1075 (scr_in hj6 hL (by decide)) ?_
  refine l_call F (pc := 1076) (bc' := 2773 * n) (bs' := 19897 * n) (vs := [.ref mo, .int _, .int _]) (ct_X5_end (M0 := M1) (I := mI M1) (L := mL M1) hX.1 _ _ hS') k_L_114_5 dL_law_1076 rfl rfl (fun _ h => by cases h; exact ⟨mo, _, rfl, MR_k hX.1⟩) (Nat.le_of_ble_eq_true rfl) ⟨Nat.le_of_ble_eq_true rfl, Nat.le_of_ble_eq_true rfl⟩ ⟨Nat.le_refl _, Nat.le_refl _⟩ (fun _ _ _ h => h) (l_ci fun r2 M2 p2 => ?_)
  obtain ⟨rfl, hl2⟩ := li_m hX (ok_end hS _ _) (by have p3 := p2; rw [hX.2.1] at p3; exact p3)
  refine l_icmp_eq F (pc := 1079) 1747 dL_law_1079 rfl (fun _ => ?_) (fun hno => False.elim (hno (by first | rfl | (rw [hX.2.1]) | (show _ = _; rw [hX.2.1]))))
  exact hnx M2 hl2
theorem law_23 {Ω : OM} {l : Launch} {p : Program} {e : Env} {s : State} {m : MethodId} {args : Array Value} {below : List Frame} {meth : Method} {c : Code} (F : Fx Ω GL l p s m args meth c) {M : PM} {xo mo j n : Nat} (hL : Ω.2.2.2.2 7 ≤ 384) (hj6 : 6 * j + 5 < Ω.2.2.2.2 7) (hl : LI M xo mo)
    (hnx : ∀ M', LI M' xo mo → WL Ω l p e s m args below meth c GL (2773 * n) (19897 * n) M' 1747 [some (.ref (Ω.2.2.2.2 6)), some (.ref xo), some (.ref mo), some (.int (nI (6 * j)))] []) : WL Ω l p e s m args below meth c GL (2773 * (n + 1)) (19897 * (n + 1)) M 1084 [some (.ref (Ω.2.2.2.2 6)), some (.ref xo), some (.ref mo), some (.int (nI (6 * j)))] [] := by
  obtain ⟨hm, hS, wa, hx⟩ := hl
  refine l_aload_n F (pc := 1084) dL_law_1084 rfl ?_
  refine l_aload_n F (pc := 1085) dL_law_1085 rfl ?_
  refine l_iload_n F (pc := 1086) dL_law_1086 rfl ?_
  refine l_iconst F (pc := 1087) (v := 1) dL_law_1087 (by decide) ?_
  refine l_iadd F (pc := 1088) dL_law_1088 ?_
  refine l_scr F (pc := 1089) dL_law_1089 (scr_in hj6 hL (by decide)) ?_
  refine l_aload_n F (pc := 1090) dL_law_1090 rfl ?_
  refine l_iload_n F (pc := 1091) dL_law_1091 rfl ?_
  refine l_iconst F (pc := 1092) (v := 2) dL_law_1092 (by decide) ?_
  refine l_iadd F (pc := 1093) dL_law_1093 ?_
  refine l_scr F (pc := 1094) dL_law_1094 (scr_in hj6 hL (by decide)) ?_
  refine l_aload_n F (pc := 1095) dL_law_1095 rfl ?_
  refine l_iload_n F (pc := 1096) dL_law_1096 rfl ?_
  refine l_iconst F (pc := 1097) (v := 3) dL_law_1097 (by decide) ?_
  refine l_iadd F (pc := 1098) dL_law_1098 ?_
  refine l_scr F (pc := 1099) dL_law_1099 (scr_in hj6 hL (by decide)) ?_
  refine l_call F (pc := 1100) (bc' := 2773 * n) (bs' := 19897 * n) (vs := [.ref xo, .int _, .int _, .int _]) (ct_X0_does hx _ _ _ hS) k_L_115_0 dL_law_1100 rfl rfl (fun _ h => by cases h; exact ⟨xo, _, rfl, hx.1.2.1⟩) (Nat.le_of_ble_eq_true rfl) ⟨Nat.le_of_ble_eq_true rfl, Nat.le_of_ble_eq_true rfl⟩ ⟨by show 2773 * n + 3 ≤ 2773 * (n + 1); omega, by show 19897 * n + 21 ≤ 19897 * (n + 1); omega⟩ (fun _ _ _ h => h) (l_ci fun r1 M1 p1 => ?_)
  obtain ⟨rfl, hX⟩ := li_x hm p1
  have hS' : OkS (sS (mI M1) (mL M1) mo).1 := by rw [hX.2.1]; exact hS
  refine l_aload_n F (pc := 1103) dL_law_1103 rfl ?_
  refine l_aload_n F (pc := 1104) dL_law_1104 rfl ?_
  refine l_iload_n F (pc := 1105) dL_law_1105 rfl ?_
  refine l_iconst F (pc := 1106) (v := 1) dL_law_1106 (by decide) ?_
  refine l_iadd F (pc := 1107) dL_law_1107 ?_
  refine l_scr F (pc := 1108) dL_law_1108 (scr_in hj6 hL (by decide)) ?_
  refine l_aload_n F (pc := 1109) dL_law_1109 rfl ?_
  refine l_iload_n F (pc := 1110) dL_law_1110 rfl ?_
  refine l_iconst F (pc := 1111) (v := 2) dL_law_1111 (by decide) ?_
  refine l_iadd F (pc := 1112) dL_law_1112 ?_
  refine l_scr F (pc := 1113) dL_law_1113 (scr_in hj6 hL (by decide)) ?_
  refine l_aload_n F (pc := 1114) dL_law_1114 rfl ?_
  refine l_iload_n F (pc := 1115) dL_law_1115 rfl ?_
  refine l_iconst F (pc := 1116) (v := 3) dL_law_1116 (by decide) ?_
  refine l_iadd F (pc := 1117) dL_law_1117 ?_
  refine l_scr F (pc := 1118) dL_law_1118 (scr_in hj6 hL (by decide)) ?_
  refine l_call F (pc := 1119) (bc' := 2773 * n) (bs' := 19897 * n) (vs := [.ref mo, .int _, .int _, .int _]) (ct_X5_does (M0 := M1) (I := mI M1) (L := mL M1) hX.1 _ _ _ hS') k_L_118_5 dL_law_1119 rfl rfl (fun _ h => by cases h; exact ⟨mo, _, rfl, MR_k hX.1⟩) (Nat.le_of_ble_eq_true rfl) ⟨Nat.le_of_ble_eq_true rfl, Nat.le_of_ble_eq_true rfl⟩ ⟨Nat.le_refl _, Nat.le_refl _⟩ (fun _ _ _ h => h) (l_ci fun r2 M2 p2 => ?_)
  obtain ⟨rfl, hl2⟩ := li_m hX (ok_does hS _ _ _) (by have p3 := p2; rw [hX.2.1] at p3; exact p3)
  refine l_icmp_eq F (pc := 1122) 1747 dL_law_1122 rfl (fun _ => ?_) (fun hno => False.elim (hno (by first | rfl | (rw [hX.2.1]) | (show _ = _; rw [hX.2.1]))))
  exact hnx M2 hl2
theorem law_24 {Ω : OM} {l : Launch} {p : Program} {e : Env} {s : State} {m : MethodId} {args : Array Value} {below : List Frame} {meth : Method} {c : Code} (F : Fx Ω GL l p s m args meth c) {M : PM} {xo mo j n : Nat} (hL : Ω.2.2.2.2 7 ≤ 384) (hj6 : 6 * j + 5 < Ω.2.2.2.2 7) (hl : LI M xo mo)
    (hnx : ∀ M', LI M' xo mo → WL Ω l p e s m args below meth c GL (2773 * n) (19897 * n) M' 1747 [some (.ref (Ω.2.2.2.2 6)), some (.ref xo), some (.ref mo), some (.int (nI (6 * j)))] []) : WL Ω l p e s m args below meth c GL (2773 * (n + 1)) (19897 * (n + 1)) M 1127 [some (.ref (Ω.2.2.2.2 6)), some (.ref xo), some (.ref mo), some (.int (nI (6 * j)))] [] := by
  obtain ⟨hm, hS, wa, hx⟩ := hl
  refine l_aload_n F (pc := 1127) dL_law_1127 rfl ?_
  refine l_aload_n F (pc := 1128) dL_law_1128 rfl ?_
  refine l_iload_n F (pc := 1129) dL_law_1129 rfl ?_
  refine l_iconst F (pc := 1130) (v := 1) dL_law_1130 (by decide) ?_
  refine l_iadd F (pc := 1131) dL_law_1131 ?_
  refine l_scr F (pc := 1132) dL_law_1132 (scr_in hj6 hL (by decide)) ?_
  refine l_aload_n F (pc := 1133) dL_law_1133 rfl ?_
  refine l_iload_n F (pc := 1134) dL_law_1134 rfl ?_
  refine l_iconst F (pc := 1135) (v := 2) dL_law_1135 (by decide) ?_
  refine l_iadd F (pc := 1136) dL_law_1136 ?_
  refine l_scr F (pc := 1137) dL_law_1137 (scr_in hj6 hL (by decide)) ?_
  refine l_call F (pc := 1138) (bc' := 2773 * n) (bs' := 19897 * n) (vs := [.ref xo, .int _, .int _]) (ct_X0_fewest hx _ _ hS) k_L_119_0 dL_law_1138 rfl rfl (fun _ h => by cases h; exact ⟨xo, _, rfl, hx.1.2.1⟩) (Nat.le_of_ble_eq_true rfl) ⟨Nat.le_of_ble_eq_true rfl, Nat.le_of_ble_eq_true rfl⟩ ⟨by show 2773 * n + 6 ≤ 2773 * (n + 1); omega, by show 19897 * n + 40 ≤ 19897 * (n + 1); omega⟩ (fun _ _ _ h => h) (l_ci fun r1 M1 p1 => ?_)
  obtain ⟨rfl, hX⟩ := li_x hm p1
  have hS' : OkS (sS (mI M1) (mL M1) mo).1 := by rw [hX.2.1]; exact hS
  refine l_aload_n F (pc := 1141) dL_law_1141 rfl ?_
  refine l_aload_n F (pc := 1142) dL_law_1142 rfl ?_
  refine l_iload_n F (pc := 1143) dL_law_1143 rfl ?_
  refine l_iconst F (pc := 1144) (v := 1) dL_law_1144 (by decide) ?_
  refine l_iadd F (pc := 1145) dL_law_1145 ?_
  refine l_scr F (pc := 1146) dL_law_1146 (scr_in hj6 hL (by decide)) ?_
  refine l_aload_n F (pc := 1147) dL_law_1147 rfl ?_
  refine l_iload_n F (pc := 1148) dL_law_1148 rfl ?_
  refine l_iconst F (pc := 1149) (v := 2) dL_law_1149 (by decide) ?_
  refine l_iadd F (pc := 1150) dL_law_1150 ?_
  refine l_scr F (pc := 1151) dL_law_1151 (scr_in hj6 hL (by decide)) ?_
  refine l_call F (pc := 1152) (bc' := 2773 * n) (bs' := 19897 * n) (vs := [.ref mo, .int _, .int _]) (ct_X5_fewest (M0 := M1) (I := mI M1) (L := mL M1) hX.1 _ _ hS') k_L_122_5 dL_law_1152 rfl rfl (fun _ h => by cases h; exact ⟨mo, _, rfl, MR_k hX.1⟩) (Nat.le_of_ble_eq_true rfl) ⟨Nat.le_of_ble_eq_true rfl, Nat.le_of_ble_eq_true rfl⟩ ⟨Nat.le_refl _, Nat.le_refl _⟩ (fun _ _ _ h => h) (l_ci fun r2 M2 p2 => ?_)
  obtain ⟨rfl, hl2⟩ := li_m hX (ok_fewest hS _ _) (by have p3 := p2; rw [hX.2.1] at p3; exact p3)
  refine l_icmp_eq F (pc := 1155) 1747 dL_law_1155 rfl (fun _ => ?_) (fun hno => False.elim (hno (by first | rfl | (rw [hX.2.1]) | (show _ = _; rw [hX.2.1]))))
  exact hnx M2 hl2
theorem law_25 {Ω : OM} {l : Launch} {p : Program} {e : Env} {s : State} {m : MethodId} {args : Array Value} {below : List Frame} {meth : Method} {c : Code} (F : Fx Ω GL l p s m args meth c) {M : PM} {xo mo j n : Nat} (hL : Ω.2.2.2.2 7 ≤ 384) (hj6 : 6 * j + 5 < Ω.2.2.2.2 7) (hl : LI M xo mo)
    (hnx : ∀ M', LI M' xo mo → WL Ω l p e s m args below meth c GL (2773 * n) (19897 * n) M' 1747 [some (.ref (Ω.2.2.2.2 6)), some (.ref xo), some (.ref mo), some (.int (nI (6 * j)))] []) : WL Ω l p e s m args below meth c GL (2773 * (n + 1)) (19897 * (n + 1)) M 1160 [some (.ref (Ω.2.2.2.2 6)), some (.ref xo), some (.ref mo), some (.int (nI (6 * j)))] [] := by
  obtain ⟨hm, hS, wa, hx⟩ := hl
  refine l_aload_n F (pc := 1160) dL_law_1160 rfl ?_
  refine l_aload_n F (pc := 1161) dL_law_1161 rfl ?_
  refine l_iload_n F (pc := 1162) dL_law_1162 rfl ?_
  refine l_iconst F (pc := 1163) (v := 1) dL_law_1163 (by decide) ?_
  refine l_iadd F (pc := 1164) dL_law_1164 ?_
  refine l_scr F (pc := 1165) dL_law_1165 (scr_in hj6 hL (by decide)) ?_
  refine l_aload_n F (pc := 1166) dL_law_1166 rfl ?_
  refine l_iload_n F (pc := 1167) dL_law_1167 rfl ?_
  refine l_iconst F (pc := 1168) (v := 2) dL_law_1168 (by decide) ?_
  refine l_iadd F (pc := 1169) dL_law_1169 ?_
  refine l_scr F (pc := 1170) dL_law_1170 (scr_in hj6 hL (by decide)) ?_
  refine l_aload_n F (pc := 1171) dL_law_1171 rfl ?_
  refine l_iload_n F (pc := 1172) dL_law_1172 rfl ?_
  refine l_iconst F (pc := 1173) (v := 3) dL_law_1173 (by decide) ?_
  refine l_iadd F (pc := 1174) dL_law_1174 ?_
  refine l_scr F (pc := 1175) dL_law_1175 (scr_in hj6 hL (by decide)) ?_
  refine l_aload_n F (pc := 1176) dL_law_1176 rfl ?_
  refine l_iload_n F (pc := 1177) dL_law_1177 rfl ?_
  refine l_iconst F (pc := 1178) (v := 4) dL_law_1178 (by decide) ?_
  refine l_iadd F (pc := 1179) dL_law_1179 ?_
  refine l_scr F (pc := 1180) dL_law_1180 (scr_in hj6 hL (by decide)) ?_
  refine l_call F (pc := 1181) (bc' := 2773 * n) (bs' := 19897 * n) (vs := [.ref xo, .int _, .int _, .int _, .int _]) (ct_X0_order hx _ _ _ _ hS) k_L_123_0 dL_law_1181 rfl rfl (fun _ h => by cases h; exact ⟨xo, _, rfl, hx.1.2.1⟩) (Nat.le_of_ble_eq_true rfl) ⟨Nat.le_of_ble_eq_true rfl, Nat.le_of_ble_eq_true rfl⟩ ⟨by show 2773 * n + 4 ≤ 2773 * (n + 1); omega, by show 19897 * n + 28 ≤ 19897 * (n + 1); omega⟩ (fun _ _ _ h => h) (l_ci fun r1 M1 p1 => ?_)
  obtain ⟨rfl, hX⟩ := li_x hm p1
  have hS' : OkS (sS (mI M1) (mL M1) mo).1 := by rw [hX.2.1]; exact hS
  refine l_aload_n F (pc := 1184) dL_law_1184 rfl ?_
  refine l_aload_n F (pc := 1185) dL_law_1185 rfl ?_
  refine l_iload_n F (pc := 1186) dL_law_1186 rfl ?_
  refine l_iconst F (pc := 1187) (v := 1) dL_law_1187 (by decide) ?_
  refine l_iadd F (pc := 1188) dL_law_1188 ?_
  refine l_scr F (pc := 1189) dL_law_1189 (scr_in hj6 hL (by decide)) ?_
  refine l_aload_n F (pc := 1190) dL_law_1190 rfl ?_
  refine l_iload_n F (pc := 1191) dL_law_1191 rfl ?_
  refine l_iconst F (pc := 1192) (v := 2) dL_law_1192 (by decide) ?_
  refine l_iadd F (pc := 1193) dL_law_1193 ?_
  refine l_scr F (pc := 1194) dL_law_1194 (scr_in hj6 hL (by decide)) ?_
  refine l_aload_n F (pc := 1195) dL_law_1195 rfl ?_
  refine l_iload_n F (pc := 1196) dL_law_1196 rfl ?_
  refine l_iconst F (pc := 1197) (v := 3) dL_law_1197 (by decide) ?_
  refine l_iadd F (pc := 1198) dL_law_1198 ?_
  refine l_scr F (pc := 1199) dL_law_1199 (scr_in hj6 hL (by decide)) ?_
  refine l_aload_n F (pc := 1200) dL_law_1200 rfl ?_
  refine l_iload_n F (pc := 1201) dL_law_1201 rfl ?_
  refine l_iconst F (pc := 1202) (v := 4) dL_law_1202 (by decide) ?_
  refine l_iadd F (pc := 1203) dL_law_1203 ?_
  refine l_scr F (pc := 1204) dL_law_1204 (scr_in hj6 hL (by decide)) ?_
  refine l_call F (pc := 1205) (bc' := 2773 * n) (bs' := 19897 * n) (vs := [.ref mo, .int _, .int _, .int _, .int _]) (ct_X5_order (M0 := M1) (I := mI M1) (L := mL M1) hX.1 _ _ _ _ hS') k_L_126_5 dL_law_1205 rfl rfl (fun _ h => by cases h; exact ⟨mo, _, rfl, MR_k hX.1⟩) (Nat.le_of_ble_eq_true rfl) ⟨Nat.le_of_ble_eq_true rfl, Nat.le_of_ble_eq_true rfl⟩ ⟨Nat.le_refl _, Nat.le_refl _⟩ (fun _ _ _ h => h) (l_ci fun r2 M2 p2 => ?_)
  obtain ⟨rfl, hl2⟩ := li_m hX (ok_order hS _ _ _ _) (by have p3 := p2; rw [hX.2.1] at p3; exact p3)
  refine l_icmp_eq F (pc := 1208) 1747 dL_law_1208 rfl (fun _ => ?_) (fun hno => False.elim (hno (by first | rfl | (rw [hX.2.1]) | (show _ = _; rw [hX.2.1]))))
  exact hnx M2 hl2
theorem law_26 {Ω : OM} {l : Launch} {p : Program} {e : Env} {s : State} {m : MethodId} {args : Array Value} {below : List Frame} {meth : Method} {c : Code} (F : Fx Ω GL l p s m args meth c) {M : PM} {xo mo j n : Nat} (hL : Ω.2.2.2.2 7 ≤ 384) (hj6 : 6 * j + 5 < Ω.2.2.2.2 7) (hl : LI M xo mo)
    (hnx : ∀ M', LI M' xo mo → WL Ω l p e s m args below meth c GL (2773 * n) (19897 * n) M' 1747 [some (.ref (Ω.2.2.2.2 6)), some (.ref xo), some (.ref mo), some (.int (nI (6 * j)))] []) : WL Ω l p e s m args below meth c GL (2773 * (n + 1)) (19897 * (n + 1)) M 1213 [some (.ref (Ω.2.2.2.2 6)), some (.ref xo), some (.ref mo), some (.int (nI (6 * j)))] [] := by
  obtain ⟨hm, hS, wa, hx⟩ := hl
  refine l_aload_n F (pc := 1213) dL_law_1213 rfl ?_
  refine l_aload_n F (pc := 1214) dL_law_1214 rfl ?_
  refine l_iload_n F (pc := 1215) dL_law_1215 rfl ?_
  refine l_iconst F (pc := 1216) (v := 1) dL_law_1216 (by decide) ?_
  refine l_iadd F (pc := 1217) dL_law_1217 ?_
  refine l_scr F (pc := 1218) dL_law_1218 (scr_in hj6 hL (by decide)) ?_
  refine l_aload_n F (pc := 1219) dL_law_1219 rfl ?_
  refine l_iload_n F (pc := 1220) dL_law_1220 rfl ?_
  refine l_iconst F (pc := 1221) (v := 2) dL_law_1221 (by decide) ?_
  refine l_iadd F (pc := 1222) dL_law_1222 ?_
  refine l_scr F (pc := 1223) dL_law_1223 (scr_in hj6 hL (by decide)) ?_
  refine l_call F (pc := 1224) (bc' := 2773 * n) (bs' := 19897 * n) (vs := [.ref xo, .int _, .int _]) (ct_X0_handovers hx _ _ hS) k_L_127_0 dL_law_1224 rfl rfl (fun _ h => by cases h; exact ⟨xo, _, rfl, hx.1.2.1⟩) (Nat.le_of_ble_eq_true rfl) ⟨Nat.le_of_ble_eq_true rfl, Nat.le_of_ble_eq_true rfl⟩ ⟨by show 2773 * n + 2 ≤ 2773 * (n + 1); omega, by show 19897 * n + 14 ≤ 19897 * (n + 1); omega⟩ (fun _ _ _ h => h) (l_ci fun r1 M1 p1 => ?_)
  obtain ⟨rfl, hX⟩ := li_x hm p1
  have hS' : OkS (sS (mI M1) (mL M1) mo).1 := by rw [hX.2.1]; exact hS
  refine l_aload_n F (pc := 1227) dL_law_1227 rfl ?_
  refine l_aload_n F (pc := 1228) dL_law_1228 rfl ?_
  refine l_iload_n F (pc := 1229) dL_law_1229 rfl ?_
  refine l_iconst F (pc := 1230) (v := 1) dL_law_1230 (by decide) ?_
  refine l_iadd F (pc := 1231) dL_law_1231 ?_
  refine l_scr F (pc := 1232) dL_law_1232 (scr_in hj6 hL (by decide)) ?_
  refine l_aload_n F (pc := 1233) dL_law_1233 rfl ?_
  refine l_iload_n F (pc := 1234) dL_law_1234 rfl ?_
  refine l_iconst F (pc := 1235) (v := 2) dL_law_1235 (by decide) ?_
  refine l_iadd F (pc := 1236) dL_law_1236 ?_
  refine l_scr F (pc := 1237) dL_law_1237 (scr_in hj6 hL (by decide)) ?_
  refine l_call F (pc := 1238) (bc' := 2773 * n) (bs' := 19897 * n) (vs := [.ref mo, .int _, .int _]) (ct_X5_handovers (M0 := M1) (I := mI M1) (L := mL M1) hX.1 _ _ hS') k_L_130_5 dL_law_1238 rfl rfl (fun _ h => by cases h; exact ⟨mo, _, rfl, MR_k hX.1⟩) (Nat.le_of_ble_eq_true rfl) ⟨Nat.le_of_ble_eq_true rfl, Nat.le_of_ble_eq_true rfl⟩ ⟨Nat.le_refl _, Nat.le_refl _⟩ (fun _ _ _ h => h) (l_ci fun r2 M2 p2 => ?_)
  obtain ⟨rfl, hl2⟩ := li_m hX (ok_handovers hS _ _) (by have p3 := p2; rw [hX.2.1] at p3; exact p3)
  refine l_icmp_eq F (pc := 1241) 1747 dL_law_1241 rfl (fun _ => ?_) (fun hno => False.elim (hno (by first | rfl | (rw [hX.2.1]) | (show _ = _; rw [hX.2.1]))))
  exact hnx M2 hl2
theorem law_27 {Ω : OM} {l : Launch} {p : Program} {e : Env} {s : State} {m : MethodId} {args : Array Value} {below : List Frame} {meth : Method} {c : Code} (F : Fx Ω GL l p s m args meth c) {M : PM} {xo mo j n : Nat} (hL : Ω.2.2.2.2 7 ≤ 384) (hj6 : 6 * j + 5 < Ω.2.2.2.2 7) (hl : LI M xo mo)
    (hnx : ∀ M', LI M' xo mo → WL Ω l p e s m args below meth c GL (2773 * n) (19897 * n) M' 1747 [some (.ref (Ω.2.2.2.2 6)), some (.ref xo), some (.ref mo), some (.int (nI (6 * j)))] []) : WL Ω l p e s m args below meth c GL (2773 * (n + 1)) (19897 * (n + 1)) M 1246 [some (.ref (Ω.2.2.2.2 6)), some (.ref xo), some (.ref mo), some (.int (nI (6 * j)))] [] := by
  obtain ⟨hm, hS, wa, hx⟩ := hl
  refine l_aload_n F (pc := 1246) dL_law_1246 rfl ?_
  refine l_call F (pc := 1247) (bc' := 2773 * n) (bs' := 19897 * n) (vs := [.ref xo]) (ct_X0_shared hx hS) k_L_131_0 dL_law_1247 rfl rfl (fun _ h => by cases h; exact ⟨xo, _, rfl, hx.1.2.1⟩) (Nat.le_of_ble_eq_true rfl) ⟨Nat.le_of_ble_eq_true rfl, Nat.le_of_ble_eq_true rfl⟩ ⟨by show 2773 * n + 0 ≤ 2773 * (n + 1); omega, by show 19897 * n + 0 ≤ 19897 * (n + 1); omega⟩ (fun _ _ _ h => h) (l_ci fun r1 M1 p1 => ?_)
  obtain ⟨rfl, hX⟩ := li_x hm p1
  have hS' : OkS (sS (mI M1) (mL M1) mo).1 := by rw [hX.2.1]; exact hS
  refine l_aload_n F (pc := 1250) dL_law_1250 rfl ?_
  refine l_call F (pc := 1251) (bc' := 2773 * n) (bs' := 19897 * n) (vs := [.ref mo]) (ct_X5_shared (M0 := M1) (I := mI M1) (L := mL M1) hX.1 hS') k_L_134_5 dL_law_1251 rfl rfl (fun _ h => by cases h; exact ⟨mo, _, rfl, MR_k hX.1⟩) (Nat.le_of_ble_eq_true rfl) ⟨Nat.le_of_ble_eq_true rfl, Nat.le_of_ble_eq_true rfl⟩ ⟨Nat.le_refl _, Nat.le_refl _⟩ (fun _ _ _ h => h) (l_ci fun r2 M2 p2 => ?_)
  obtain ⟨rfl, hl2⟩ := li_m hX (show OkS (sharedS (sS (mI M) (mL M) mo)).2.1 from hS) (by have p3 := p2; rw [hX.2.1] at p3; exact p3)
  refine l_icmp_eq F (pc := 1254) 1747 dL_law_1254 rfl (fun _ => ?_) (fun hno => False.elim (hno (by first | rfl | (rw [hX.2.1]) | (show _ = _; rw [hX.2.1]))))
  exact hnx M2 hl2
theorem law_28 {Ω : OM} {l : Launch} {p : Program} {e : Env} {s : State} {m : MethodId} {args : Array Value} {below : List Frame} {meth : Method} {c : Code} (F : Fx Ω GL l p s m args meth c) {M : PM} {xo mo j n : Nat} (hL : Ω.2.2.2.2 7 ≤ 384) (hj6 : 6 * j + 5 < Ω.2.2.2.2 7) (hl : LI M xo mo)
    (hnx : ∀ M', LI M' xo mo → WL Ω l p e s m args below meth c GL (2773 * n) (19897 * n) M' 1747 [some (.ref (Ω.2.2.2.2 6)), some (.ref xo), some (.ref mo), some (.int (nI (6 * j)))] []) : WL Ω l p e s m args below meth c GL (2773 * (n + 1)) (19897 * (n + 1)) M 1259 [some (.ref (Ω.2.2.2.2 6)), some (.ref xo), some (.ref mo), some (.int (nI (6 * j)))] [] := by
  obtain ⟨hm, hS, wa, hx⟩ := hl
  refine l_aload_n F (pc := 1259) dL_law_1259 rfl ?_
  refine l_aload_n F (pc := 1260) dL_law_1260 rfl ?_
  refine l_iload_n F (pc := 1261) dL_law_1261 rfl ?_
  refine l_iconst F (pc := 1262) (v := 1) dL_law_1262 (by decide) ?_
  refine l_iadd F (pc := 1263) dL_law_1263 ?_
  refine l_scr F (pc := 1264) dL_law_1264 (scr_in hj6 hL (by decide)) ?_
  refine l_call F (pc := 1265) (bc' := 2773 * n) (bs' := 19897 * n) (vs := [.ref xo, .int _]) (ct_X0_given hx _ hS) k_L_135_0 dL_law_1265 rfl rfl (fun _ h => by cases h; exact ⟨xo, _, rfl, hx.1.2.1⟩) (Nat.le_of_ble_eq_true rfl) ⟨Nat.le_of_ble_eq_true rfl, Nat.le_of_ble_eq_true rfl⟩ ⟨by show 2773 * n + 1 ≤ 2773 * (n + 1); omega, by show 19897 * n + 7 ≤ 19897 * (n + 1); omega⟩ (fun _ _ _ h => h) (l_ci fun r1 M1 p1 => ?_)
  obtain ⟨rfl, hX⟩ := li_x hm p1
  have hS' : OkS (sS (mI M1) (mL M1) mo).1 := by rw [hX.2.1]; exact hS
  refine l_aload_n F (pc := 1268) dL_law_1268 rfl ?_
  refine l_aload_n F (pc := 1269) dL_law_1269 rfl ?_
  refine l_iload_n F (pc := 1270) dL_law_1270 rfl ?_
  refine l_iconst F (pc := 1271) (v := 1) dL_law_1271 (by decide) ?_
  refine l_iadd F (pc := 1272) dL_law_1272 ?_
  refine l_scr F (pc := 1273) dL_law_1273 (scr_in hj6 hL (by decide)) ?_
  refine l_call F (pc := 1274) (bc' := 2773 * n) (bs' := 19897 * n) (vs := [.ref mo, .int _]) (ct_X5_given (M0 := M1) (I := mI M1) (L := mL M1) hX.1 _ hS') k_L_138_5 dL_law_1274 rfl rfl (fun _ h => by cases h; exact ⟨mo, _, rfl, MR_k hX.1⟩) (Nat.le_of_ble_eq_true rfl) ⟨Nat.le_of_ble_eq_true rfl, Nat.le_of_ble_eq_true rfl⟩ ⟨Nat.le_refl _, Nat.le_refl _⟩ (fun _ _ _ h => h) (l_ci fun r2 M2 p2 => ?_)
  obtain ⟨rfl, hl2⟩ := li_m hX (ok_given hS _) (by have p3 := p2; rw [hX.2.1] at p3; exact p3)
  refine l_icmp_eq F (pc := 1277) 1747 dL_law_1277 rfl (fun _ => ?_) (fun hno => False.elim (hno (by first | rfl | (rw [hX.2.1]) | (show _ = _; rw [hX.2.1]))))
  exact hnx M2 hl2
theorem law_29 {Ω : OM} {l : Launch} {p : Program} {e : Env} {s : State} {m : MethodId} {args : Array Value} {below : List Frame} {meth : Method} {c : Code} (F : Fx Ω GL l p s m args meth c) {M : PM} {xo mo j n : Nat} (hL : Ω.2.2.2.2 7 ≤ 384) (hj6 : 6 * j + 5 < Ω.2.2.2.2 7) (hl : LI M xo mo)
    (hnx : ∀ M', LI M' xo mo → WL Ω l p e s m args below meth c GL (2773 * n) (19897 * n) M' 1747 [some (.ref (Ω.2.2.2.2 6)), some (.ref xo), some (.ref mo), some (.int (nI (6 * j)))] []) : WL Ω l p e s m args below meth c GL (2773 * (n + 1)) (19897 * (n + 1)) M 1282 [some (.ref (Ω.2.2.2.2 6)), some (.ref xo), some (.ref mo), some (.int (nI (6 * j)))] [] := by
  obtain ⟨hm, hS, wa, hx⟩ := hl
  refine l_aload_n F (pc := 1282) dL_law_1282 rfl ?_
  refine l_aload_n F (pc := 1283) dL_law_1283 rfl ?_
  refine l_iload_n F (pc := 1284) dL_law_1284 rfl ?_
  refine l_iconst F (pc := 1285) (v := 1) dL_law_1285 (by decide) ?_
  refine l_iadd F (pc := 1286) dL_law_1286 ?_
  refine l_scr F (pc := 1287) dL_law_1287 (scr_in hj6 hL (by decide)) ?_
  refine l_aload_n F (pc := 1288) dL_law_1288 rfl ?_
  refine l_iload_n F (pc := 1289) dL_law_1289 rfl ?_
  refine l_iconst F (pc := 1290) (v := 2) dL_law_1290 (by decide) ?_
  refine l_iadd F (pc := 1291) dL_law_1291 ?_
  refine l_scr F (pc := 1292) dL_law_1292 (scr_in hj6 hL (by decide)) ?_
  refine l_aload_n F (pc := 1293) dL_law_1293 rfl ?_
  refine l_iload_n F (pc := 1294) dL_law_1294 rfl ?_
  refine l_iconst F (pc := 1295) (v := 3) dL_law_1295 (by decide) ?_
  refine l_iadd F (pc := 1296) dL_law_1296 ?_
  refine l_scr F (pc := 1297) dL_law_1297 (scr_in hj6 hL (by decide)) ?_
  refine l_call F (pc := 1298) (bc' := 2773 * n) (bs' := 19897 * n) (vs := [.ref xo, .int _, .int _, .int _]) (ct_X0_mill hx _ _ _ hS) k_L_139_0 dL_law_1298 rfl rfl (fun _ h => by cases h; exact ⟨xo, _, rfl, hx.1.2.1⟩) (Nat.le_of_ble_eq_true rfl) ⟨Nat.le_of_ble_eq_true rfl, Nat.le_of_ble_eq_true rfl⟩ ⟨by show 2773 * n + 3 ≤ 2773 * (n + 1); omega, by show 19897 * n + 21 ≤ 19897 * (n + 1); omega⟩ (fun _ _ _ h => h) (l_ci fun r1 M1 p1 => ?_)
  obtain ⟨rfl, hX⟩ := li_x hm p1
  have hS' : OkS (sS (mI M1) (mL M1) mo).1 := by rw [hX.2.1]; exact hS
  refine l_aload_n F (pc := 1301) dL_law_1301 rfl ?_
  refine l_aload_n F (pc := 1302) dL_law_1302 rfl ?_
  refine l_iload_n F (pc := 1303) dL_law_1303 rfl ?_
  refine l_iconst F (pc := 1304) (v := 1) dL_law_1304 (by decide) ?_
  refine l_iadd F (pc := 1305) dL_law_1305 ?_
  refine l_scr F (pc := 1306) dL_law_1306 (scr_in hj6 hL (by decide)) ?_
  refine l_aload_n F (pc := 1307) dL_law_1307 rfl ?_
  refine l_iload_n F (pc := 1308) dL_law_1308 rfl ?_
  refine l_iconst F (pc := 1309) (v := 2) dL_law_1309 (by decide) ?_
  refine l_iadd F (pc := 1310) dL_law_1310 ?_
  refine l_scr F (pc := 1311) dL_law_1311 (scr_in hj6 hL (by decide)) ?_
  refine l_aload_n F (pc := 1312) dL_law_1312 rfl ?_
  refine l_iload_n F (pc := 1313) dL_law_1313 rfl ?_
  refine l_iconst F (pc := 1314) (v := 3) dL_law_1314 (by decide) ?_
  refine l_iadd F (pc := 1315) dL_law_1315 ?_
  refine l_scr F (pc := 1316) dL_law_1316 (scr_in hj6 hL (by decide)) ?_
  refine l_call F (pc := 1317) (bc' := 2773 * n) (bs' := 19897 * n) (vs := [.ref mo, .int _, .int _, .int _]) (ct_X5_mill (M0 := M1) (I := mI M1) (L := mL M1) hX.1 _ _ _ hS') k_L_142_5 dL_law_1317 rfl rfl (fun _ h => by cases h; exact ⟨mo, _, rfl, MR_k hX.1⟩) (Nat.le_of_ble_eq_true rfl) ⟨Nat.le_of_ble_eq_true rfl, Nat.le_of_ble_eq_true rfl⟩ ⟨Nat.le_refl _, Nat.le_refl _⟩ (fun _ _ _ h => h) (l_ci fun r2 M2 p2 => ?_)
  obtain ⟨rfl, hl2⟩ := li_m hX (ok_mill hS _ _ _) (by have p3 := p2; rw [hX.2.1] at p3; exact p3)
  refine l_icmp_eq F (pc := 1320) 1747 dL_law_1320 rfl (fun _ => ?_) (fun hno => False.elim (hno (by first | rfl | (rw [hX.2.1]) | (show _ = _; rw [hX.2.1]))))
  exact hnx M2 hl2
theorem law_30 {Ω : OM} {l : Launch} {p : Program} {e : Env} {s : State} {m : MethodId} {args : Array Value} {below : List Frame} {meth : Method} {c : Code} (F : Fx Ω GL l p s m args meth c) {M : PM} {xo mo j n : Nat} (hL : Ω.2.2.2.2 7 ≤ 384) (hj6 : 6 * j + 5 < Ω.2.2.2.2 7) (hl : LI M xo mo)
    (hnx : ∀ M', LI M' xo mo → WL Ω l p e s m args below meth c GL (2773 * n) (19897 * n) M' 1747 [some (.ref (Ω.2.2.2.2 6)), some (.ref xo), some (.ref mo), some (.int (nI (6 * j)))] []) : WL Ω l p e s m args below meth c GL (2773 * (n + 1)) (19897 * (n + 1)) M 1325 [some (.ref (Ω.2.2.2.2 6)), some (.ref xo), some (.ref mo), some (.int (nI (6 * j)))] [] := by
  obtain ⟨hm, hS, wa, hx⟩ := hl
  refine l_aload_n F (pc := 1325) dL_law_1325 rfl ?_
  refine l_aload_n F (pc := 1326) dL_law_1326 rfl ?_
  refine l_iload_n F (pc := 1327) dL_law_1327 rfl ?_
  refine l_iconst F (pc := 1328) (v := 1) dL_law_1328 (by decide) ?_
  refine l_iadd F (pc := 1329) dL_law_1329 ?_
  refine l_scr F (pc := 1330) dL_law_1330 (scr_in hj6 hL (by decide)) ?_
  refine l_aload_n F (pc := 1331) dL_law_1331 rfl ?_
  refine l_iload_n F (pc := 1332) dL_law_1332 rfl ?_
  refine l_iconst F (pc := 1333) (v := 2) dL_law_1333 (by decide) ?_
  refine l_iadd F (pc := 1334) dL_law_1334 ?_
  refine l_scr F (pc := 1335) dL_law_1335 (scr_in hj6 hL (by decide)) ?_
  refine l_call F (pc := 1336) (bc' := 2773 * n) (bs' := 19897 * n) (vs := [.ref xo, .int _, .int _]) (ct_X0_weakest hx _ _ hS) k_L_143_0 dL_law_1336 rfl rfl (fun _ h => by cases h; exact ⟨xo, _, rfl, hx.1.2.1⟩) (Nat.le_of_ble_eq_true rfl) ⟨Nat.le_of_ble_eq_true rfl, Nat.le_of_ble_eq_true rfl⟩ ⟨by show 2773 * n + 3 ≤ 2773 * (n + 1); omega, by show 19897 * n + 21 ≤ 19897 * (n + 1); omega⟩ (fun _ _ _ h => h) (l_ci fun r1 M1 p1 => ?_)
  obtain ⟨rfl, hX⟩ := li_x hm p1
  have hS' : OkS (sS (mI M1) (mL M1) mo).1 := by rw [hX.2.1]; exact hS
  refine l_aload_n F (pc := 1339) dL_law_1339 rfl ?_
  refine l_aload_n F (pc := 1340) dL_law_1340 rfl ?_
  refine l_iload_n F (pc := 1341) dL_law_1341 rfl ?_
  refine l_iconst F (pc := 1342) (v := 1) dL_law_1342 (by decide) ?_
  refine l_iadd F (pc := 1343) dL_law_1343 ?_
  refine l_scr F (pc := 1344) dL_law_1344 (scr_in hj6 hL (by decide)) ?_
  refine l_aload_n F (pc := 1345) dL_law_1345 rfl ?_
  refine l_iload_n F (pc := 1346) dL_law_1346 rfl ?_
  refine l_iconst F (pc := 1347) (v := 2) dL_law_1347 (by decide) ?_
  refine l_iadd F (pc := 1348) dL_law_1348 ?_
  refine l_scr F (pc := 1349) dL_law_1349 (scr_in hj6 hL (by decide)) ?_
  refine l_call F (pc := 1350) (bc' := 2773 * n) (bs' := 19897 * n) (vs := [.ref mo, .int _, .int _]) (ct_X5_weakest (M0 := M1) (I := mI M1) (L := mL M1) hX.1 _ _ hS') k_L_146_5 dL_law_1350 rfl rfl (fun _ h => by cases h; exact ⟨mo, _, rfl, MR_k hX.1⟩) (Nat.le_of_ble_eq_true rfl) ⟨Nat.le_of_ble_eq_true rfl, Nat.le_of_ble_eq_true rfl⟩ ⟨Nat.le_refl _, Nat.le_refl _⟩ (fun _ _ _ h => h) (l_ci fun r2 M2 p2 => ?_)
  obtain ⟨rfl, hl2⟩ := li_m hX (ok_weakest hS _ _) (by have p3 := p2; rw [hX.2.1] at p3; exact p3)
  refine l_icmp_eq F (pc := 1353) 1747 dL_law_1353 rfl (fun _ => ?_) (fun hno => False.elim (hno (by first | rfl | (rw [hX.2.1]) | (show _ = _; rw [hX.2.1]))))
  exact hnx M2 hl2
theorem law_31 {Ω : OM} {l : Launch} {p : Program} {e : Env} {s : State} {m : MethodId} {args : Array Value} {below : List Frame} {meth : Method} {c : Code} (F : Fx Ω GL l p s m args meth c) {M : PM} {xo mo j n : Nat} (hL : Ω.2.2.2.2 7 ≤ 384) (hj6 : 6 * j + 5 < Ω.2.2.2.2 7) (hl : LI M xo mo)
    (hnx : ∀ M', LI M' xo mo → WL Ω l p e s m args below meth c GL (2773 * n) (19897 * n) M' 1747 [some (.ref (Ω.2.2.2.2 6)), some (.ref xo), some (.ref mo), some (.int (nI (6 * j)))] []) : WL Ω l p e s m args below meth c GL (2773 * (n + 1)) (19897 * (n + 1)) M 1358 [some (.ref (Ω.2.2.2.2 6)), some (.ref xo), some (.ref mo), some (.int (nI (6 * j)))] [] := by
  obtain ⟨hm, hS, wa, hx⟩ := hl
  refine l_aload_n F (pc := 1358) dL_law_1358 rfl ?_
  refine l_aload_n F (pc := 1359) dL_law_1359 rfl ?_
  refine l_iload_n F (pc := 1360) dL_law_1360 rfl ?_
  refine l_iconst F (pc := 1361) (v := 1) dL_law_1361 (by decide) ?_
  refine l_iadd F (pc := 1362) dL_law_1362 ?_
  refine l_scr F (pc := 1363) dL_law_1363 (scr_in hj6 hL (by decide)) ?_
  refine l_aload_n F (pc := 1364) dL_law_1364 rfl ?_
  refine l_iload_n F (pc := 1365) dL_law_1365 rfl ?_
  refine l_iconst F (pc := 1366) (v := 2) dL_law_1366 (by decide) ?_
  refine l_iadd F (pc := 1367) dL_law_1367 ?_
  refine l_scr F (pc := 1368) dL_law_1368 (scr_in hj6 hL (by decide)) ?_
  refine l_aload_n F (pc := 1369) dL_law_1369 rfl ?_
  refine l_iload_n F (pc := 1370) dL_law_1370 rfl ?_
  refine l_iconst F (pc := 1371) (v := 3) dL_law_1371 (by decide) ?_
  refine l_iadd F (pc := 1372) dL_law_1372 ?_
  refine l_scr F (pc := 1373) dL_law_1373 (scr_in hj6 hL (by decide)) ?_
  refine l_aload_n F (pc := 1374) dL_law_1374 rfl ?_
  refine l_iload_n F (pc := 1375) dL_law_1375 rfl ?_
  refine l_iconst F (pc := 1376) (v := 4) dL_law_1376 (by decide) ?_
  refine l_iadd F (pc := 1377) dL_law_1377 ?_
  refine l_scr F (pc := 1378) dL_law_1378 (scr_in hj6 hL (by decide)) ?_
  refine l_call F (pc := 1379) (bc' := 2773 * n) (bs' := 19897 * n) (vs := [.ref xo, .int _, .int _, .int _, .int _]) (ct_X0_helps hx _ _ _ _ hS) k_L_147_0 dL_law_1379 rfl rfl (fun _ h => by cases h; exact ⟨xo, _, rfl, hx.1.2.1⟩) (Nat.le_of_ble_eq_true rfl) ⟨Nat.le_of_ble_eq_true rfl, Nat.le_of_ble_eq_true rfl⟩ ⟨by show 2773 * n + 303 ≤ 2773 * (n + 1); omega, by show 19897 * n + 2121 ≤ 19897 * (n + 1); omega⟩ (fun _ _ _ h => h) (l_ci fun r1 M1 p1 => ?_)
  obtain ⟨rfl, hX⟩ := li_x hm p1
  have hS' : OkS (sS (mI M1) (mL M1) mo).1 := by rw [hX.2.1]; exact hS
  refine l_aload_n F (pc := 1382) dL_law_1382 rfl ?_
  refine l_aload_n F (pc := 1383) dL_law_1383 rfl ?_
  refine l_iload_n F (pc := 1384) dL_law_1384 rfl ?_
  refine l_iconst F (pc := 1385) (v := 1) dL_law_1385 (by decide) ?_
  refine l_iadd F (pc := 1386) dL_law_1386 ?_
  refine l_scr F (pc := 1387) dL_law_1387 (scr_in hj6 hL (by decide)) ?_
  refine l_aload_n F (pc := 1388) dL_law_1388 rfl ?_
  refine l_iload_n F (pc := 1389) dL_law_1389 rfl ?_
  refine l_iconst F (pc := 1390) (v := 2) dL_law_1390 (by decide) ?_
  refine l_iadd F (pc := 1391) dL_law_1391 ?_
  refine l_scr F (pc := 1392) dL_law_1392 (scr_in hj6 hL (by decide)) ?_
  refine l_aload_n F (pc := 1393) dL_law_1393 rfl ?_
  refine l_iload_n F (pc := 1394) dL_law_1394 rfl ?_
  refine l_iconst F (pc := 1395) (v := 3) dL_law_1395 (by decide) ?_
  refine l_iadd F (pc := 1396) dL_law_1396 ?_
  refine l_scr F (pc := 1397) dL_law_1397 (scr_in hj6 hL (by decide)) ?_
  refine l_aload_n F (pc := 1398) dL_law_1398 rfl ?_
  refine l_iload_n F (pc := 1399) dL_law_1399 rfl ?_
  refine l_iconst F (pc := 1400) (v := 4) dL_law_1400 (by decide) ?_
  refine l_iadd F (pc := 1401) dL_law_1401 ?_
  refine l_scr F (pc := 1402) dL_law_1402 (scr_in hj6 hL (by decide)) ?_
  refine l_call F (pc := 1403) (bc' := 2773 * n) (bs' := 19897 * n) (vs := [.ref mo, .int _, .int _, .int _, .int _]) (ct_X5_helps (M0 := M1) (I := mI M1) (L := mL M1) hX.1 _ _ _ _ hS') k_L_150_5 dL_law_1403 rfl rfl (fun _ h => by cases h; exact ⟨mo, _, rfl, MR_k hX.1⟩) (Nat.le_of_ble_eq_true rfl) ⟨Nat.le_of_ble_eq_true rfl, Nat.le_of_ble_eq_true rfl⟩ ⟨Nat.le_refl _, Nat.le_refl _⟩ (fun _ _ _ h => h) (l_ci fun r2 M2 p2 => ?_)
  obtain ⟨rfl, hl2⟩ := li_m hX (ok_helps hS _ _ _ _) (by have p3 := p2; rw [hX.2.1] at p3; exact p3)
  refine l_icmp_eq F (pc := 1406) 1747 dL_law_1406 rfl (fun _ => ?_) (fun hno => False.elim (hno (by first | rfl | (rw [hX.2.1]) | (show _ = _; rw [hX.2.1]))))
  exact hnx M2 hl2
theorem law_32 {Ω : OM} {l : Launch} {p : Program} {e : Env} {s : State} {m : MethodId} {args : Array Value} {below : List Frame} {meth : Method} {c : Code} (F : Fx Ω GL l p s m args meth c) {M : PM} {xo mo j n : Nat} (hL : Ω.2.2.2.2 7 ≤ 384) (hj6 : 6 * j + 5 < Ω.2.2.2.2 7) (hl : LI M xo mo)
    (hnx : ∀ M', LI M' xo mo → WL Ω l p e s m args below meth c GL (2773 * n) (19897 * n) M' 1747 [some (.ref (Ω.2.2.2.2 6)), some (.ref xo), some (.ref mo), some (.int (nI (6 * j)))] []) : WL Ω l p e s m args below meth c GL (2773 * (n + 1)) (19897 * (n + 1)) M 1411 [some (.ref (Ω.2.2.2.2 6)), some (.ref xo), some (.ref mo), some (.int (nI (6 * j)))] [] := by
  obtain ⟨hm, hS, wa, hx⟩ := hl
  refine l_aload_n F (pc := 1411) dL_law_1411 rfl ?_
  refine l_aload_n F (pc := 1412) dL_law_1412 rfl ?_
  refine l_iload_n F (pc := 1413) dL_law_1413 rfl ?_
  refine l_iconst F (pc := 1414) (v := 1) dL_law_1414 (by decide) ?_
  refine l_iadd F (pc := 1415) dL_law_1415 ?_
  refine l_scr F (pc := 1416) dL_law_1416 (scr_in hj6 hL (by decide)) ?_
  refine l_aload_n F (pc := 1417) dL_law_1417 rfl ?_
  refine l_iload_n F (pc := 1418) dL_law_1418 rfl ?_
  refine l_iconst F (pc := 1419) (v := 2) dL_law_1419 (by decide) ?_
  refine l_iadd F (pc := 1420) dL_law_1420 ?_
  refine l_scr F (pc := 1421) dL_law_1421 (scr_in hj6 hL (by decide)) ?_
  refine l_aload_n F (pc := 1422) dL_law_1422 rfl ?_
  refine l_iload_n F (pc := 1423) dL_law_1423 rfl ?_
  refine l_iconst F (pc := 1424) (v := 3) dL_law_1424 (by decide) ?_
  refine l_iadd F (pc := 1425) dL_law_1425 ?_
  refine l_scr F (pc := 1426) dL_law_1426 (scr_in hj6 hL (by decide)) ?_
  refine l_call F (pc := 1427) (bc' := 2773 * n) (bs' := 19897 * n) (vs := [.ref xo, .int _, .int _, .int _]) (ct_X0_caught hx _ _ _ hS) k_L_151_0 dL_law_1427 rfl rfl (fun _ h => by cases h; exact ⟨xo, _, rfl, hx.1.2.1⟩) (Nat.le_of_ble_eq_true rfl) ⟨Nat.le_of_ble_eq_true rfl, Nat.le_of_ble_eq_true rfl⟩ ⟨by show 2773 * n + 2 ≤ 2773 * (n + 1); omega, by show 19897 * n + 14 ≤ 19897 * (n + 1); omega⟩ (fun _ _ _ h => h) (l_ci fun r1 M1 p1 => ?_)
  obtain ⟨rfl, hX⟩ := li_x hm p1
  have hS' : OkS (sS (mI M1) (mL M1) mo).1 := by rw [hX.2.1]; exact hS
  refine l_aload_n F (pc := 1430) dL_law_1430 rfl ?_
  refine l_aload_n F (pc := 1431) dL_law_1431 rfl ?_
  refine l_iload_n F (pc := 1432) dL_law_1432 rfl ?_
  refine l_iconst F (pc := 1433) (v := 1) dL_law_1433 (by decide) ?_
  refine l_iadd F (pc := 1434) dL_law_1434 ?_
  refine l_scr F (pc := 1435) dL_law_1435 (scr_in hj6 hL (by decide)) ?_
  refine l_aload_n F (pc := 1436) dL_law_1436 rfl ?_
  refine l_iload_n F (pc := 1437) dL_law_1437 rfl ?_
  refine l_iconst F (pc := 1438) (v := 2) dL_law_1438 (by decide) ?_
  refine l_iadd F (pc := 1439) dL_law_1439 ?_
  refine l_scr F (pc := 1440) dL_law_1440 (scr_in hj6 hL (by decide)) ?_
  refine l_aload_n F (pc := 1441) dL_law_1441 rfl ?_
  refine l_iload_n F (pc := 1442) dL_law_1442 rfl ?_
  refine l_iconst F (pc := 1443) (v := 3) dL_law_1443 (by decide) ?_
  refine l_iadd F (pc := 1444) dL_law_1444 ?_
  refine l_scr F (pc := 1445) dL_law_1445 (scr_in hj6 hL (by decide)) ?_
  refine l_call F (pc := 1446) (bc' := 2773 * n) (bs' := 19897 * n) (vs := [.ref mo, .int _, .int _, .int _]) (ct_X5_caught (M0 := M1) (I := mI M1) (L := mL M1) hX.1 _ _ _ hS') k_L_154_5 dL_law_1446 rfl rfl (fun _ h => by cases h; exact ⟨mo, _, rfl, MR_k hX.1⟩) (Nat.le_of_ble_eq_true rfl) ⟨Nat.le_of_ble_eq_true rfl, Nat.le_of_ble_eq_true rfl⟩ ⟨Nat.le_refl _, Nat.le_refl _⟩ (fun _ _ _ h => h) (l_ci fun r2 M2 p2 => ?_)
  obtain ⟨rfl, hl2⟩ := li_m hX (ok_caught hS _ _ _) (by have p3 := p2; rw [hX.2.1] at p3; exact p3)
  refine l_icmp_eq F (pc := 1449) 1747 dL_law_1449 rfl (fun _ => ?_) (fun hno => False.elim (hno (by first | rfl | (rw [hX.2.1]) | (show _ = _; rw [hX.2.1]))))
  exact hnx M2 hl2
