set_option maxRecDepth 100000
section LC
variable {p : Program} {l : Launch} {e : Env} {s : State} {m : MethodId} {below : List Frame} {meth : Method} {c : Code} {b L : Nat} {xs : Nat → Int32} {i : Int32} {cells slots : Nat}
set_option maxHeartbeats 4000000 in
/-- centuries -/
theorem lc_30 (X : CallFix p m c cL_law 4 s #[Value.ref b] lw_all "LeftBehindLaw") (hX : va_X b L xs s s.heap) (hbl : b < s.heap.size) (hin : ∀ v : Int32, v = 1 ∨ v = 2 ∨ v = 3 ∨ v = 4 → vp_in (i + v) L) (hc : cells + 36 ≤ room_1.cells) (hs : slots + 240 ≤ room_1.slots) (K : Jl_ p l e s m below meth c b i (cells + 36) (slots + 240) 1239) : Jl_ p l e s m below meth c b i cells slots 1076 := by
  intro G σ hz hG hI hR
  have hbA : ¬ AA_ G b := ba_ hz hbl
  obtain ⟨r, σ1, σ2, h1, h2, hR2, h3, h4⟩ := op_centuries_z hR (xs (i + 1).toNatClampNeg) (xs (i + 2).toNatClampNeg)
  refine jj_aload_n X dL_law_1076 1 rfl ?_
  refine jl_arg X hX hbl hbA 1 0 3 rfl rfl (by decide) (hin 1 (by decide)) dL_law_1077 dL_law_1078 dL_law_1079 dL_law_1080 dL_law_1081 ?_
  refine jl_arg X hX hbl hbA 2 0 3 rfl rfl (by decide) (hin 2 (by decide)) dL_law_1082 dL_law_1083 dL_law_1084 dL_law_1085 dL_law_1086 ?_
  refine jl_ci (mc := 0) (ms := 0) (jr_V (rest := []) X hG (tg_0 hG) (by decide) ⟨_, rfl⟩ rfl (mt_X0_centuries l G σ (xs (i + 1).toNatClampNeg) (xs (i + 2).toNatClampNeg) _ h1) (cwV 2 X.2.2.2.2 (lw_V q892 q893 q894 q61 q895) rfl rfl rfl kd_X0_centuries ⟨by decide, by decide⟩) rfl rfl (Nat.le_of_ble_eq_true rfl) dL_law_1087 ⟨Nat.le_trans (by omega) hc, Nat.le_trans (by omega) hs⟩) ?_
  refine jj_aload_n X dL_law_1090 2 rfl ?_
  refine jl_arg X hX hbl hbA 1 0 3 rfl rfl (by decide) (hin 1 (by decide)) dL_law_1091 dL_law_1092 dL_law_1093 dL_law_1094 dL_law_1095 ?_
  refine jl_arg X hX hbl hbA 2 0 3 rfl rfl (by decide) (hin 2 (by decide)) dL_law_1096 dL_law_1097 dL_law_1098 dL_law_1099 dL_law_1100 ?_
  refine jl_ci (mc := 0) (ms := 0) (jr_V (rest := [.int r]) X hG (tg_90 hG) (by decide) ⟨_, rfl⟩ rfl (mt_X6_centuries l G σ1 (xs (i + 1).toNatClampNeg) (xs (i + 2).toNatClampNeg) _ h2) (cwV 2 X.2.2.2.2 (lw_V q1254 q1255 q1256 q67 q1257) rfl rfl rfl kd_X6_centuries ⟨by decide, by decide⟩) rfl rfl (Nat.le_of_ble_eq_true rfl) dL_law_1101 ⟨Nat.le_trans (by omega) hc, Nat.le_trans (by omega) hs⟩) ?_
  refine jl_eq X 1239 dL_law_1104 (by decide) ?_
  exact jj_widen (by omega) (by omega) (K G σ2 hz hG (by rw [h4, h3]; exact hI) hR2)
set_option maxHeartbeats 4000000 in
/-- part -/
theorem lc_31 (X : CallFix p m c cL_law 4 s #[Value.ref b] lw_all "LeftBehindLaw") (hX : va_X b L xs s s.heap) (hbl : b < s.heap.size) (hin : ∀ v : Int32, v = 1 ∨ v = 2 ∨ v = 3 ∨ v = 4 → vp_in (i + v) L) (hc : cells + 36 ≤ room_1.cells) (hs : slots + 240 ≤ room_1.slots) (K : Jl_ p l e s m below meth c b i (cells + 36) (slots + 240) 1239) : Jl_ p l e s m below meth c b i cells slots 1109 := by
  intro G σ hz hG hI hR
  have hbA : ¬ AA_ G b := ba_ hz hbl
  obtain ⟨r, σ1, σ2, h1, h2, hR2, h3, h4⟩ := op_part_z hR (xs (i + 1).toNatClampNeg)
  refine jj_aload_n X dL_law_1109 1 rfl ?_
  refine jl_arg X hX hbl hbA 1 0 3 rfl rfl (by decide) (hin 1 (by decide)) dL_law_1110 dL_law_1111 dL_law_1112 dL_law_1113 dL_law_1114 ?_
  refine jl_cl (mc := 0) (ms := 0) (jr_V (rest := []) X hG (tg_0 hG) (by decide) ⟨_, rfl⟩ rfl (mt_X0_part l G σ (xs (i + 1).toNatClampNeg) _ h1) (cwV 1 X.2.2.2.2 (lw_V q909 q910 q911 q61 q912) rfl rfl rfl kd_X0_part ⟨by decide, by decide⟩) rfl rfl (Nat.le_of_ble_eq_true rfl) dL_law_1115 ⟨Nat.le_trans (by omega) hc, Nat.le_trans (by omega) hs⟩) ?_
  refine jj_aload_n X dL_law_1118 2 rfl ?_
  refine jl_arg X hX hbl hbA 1 0 3 rfl rfl (by decide) (hin 1 (by decide)) dL_law_1119 dL_law_1120 dL_law_1121 dL_law_1122 dL_law_1123 ?_
  refine jl_cl (mc := 0) (ms := 0) (jr_V (rest := [.long r]) X hG (tg_90 hG) (by decide) ⟨_, rfl⟩ rfl (mt_X6_part l G σ1 (xs (i + 1).toNatClampNeg) _ h2) (cwV 1 X.2.2.2.2 (lw_V q1325 q1326 q1327 q67 q1328) rfl rfl rfl kd_X6_part ⟨by decide, by decide⟩) rfl rfl (Nat.le_of_ble_eq_true rfl) dL_law_1124 ⟨Nat.le_trans (by omega) hc, Nat.le_trans (by omega) hs⟩) ?_
  refine jl_leq X 1239 dL_law_1127 dL_law_1128 (by decide) ?_
  exact jj_widen (by omega) (by omega) (K G σ2 hz hG (by rw [h4, h3]; exact hI) hR2)
set_option maxHeartbeats 4000000 in
/-- image -/
theorem lc_32 (X : CallFix p m c cL_law 4 s #[Value.ref b] lw_all "LeftBehindLaw") (hX : va_X b L xs s s.heap) (hbl : b < s.heap.size) (hin : ∀ v : Int32, v = 1 ∨ v = 2 ∨ v = 3 ∨ v = 4 → vp_in (i + v) L) (hc : cells + 36 ≤ room_1.cells) (hs : slots + 240 ≤ room_1.slots) (K : Jl_ p l e s m below meth c b i (cells + 36) (slots + 240) 1239) : Jl_ p l e s m below meth c b i cells slots 1133 := by
  intro G σ hz hG hI hR
  have hbA : ¬ AA_ G b := ba_ hz hbl
  obtain ⟨r, σ1, σ2, h1, h2, hR2, h3, h4⟩ := op_image_z hR (xs (i + 1).toNatClampNeg)
  refine jj_aload_n X dL_law_1133 1 rfl ?_
  refine jl_arg X hX hbl hbA 1 0 3 rfl rfl (by decide) (hin 1 (by decide)) dL_law_1134 dL_law_1135 dL_law_1136 dL_law_1137 dL_law_1138 ?_
  refine jl_cx (mc := 35) (ms := 226) (jr_V (rest := []) X hG (tg_0 hG) (by decide) ⟨_, rfl⟩ rfl (mt_X0_image l G σ (xs (i + 1).toNatClampNeg) hI _ h1) (cwV 1 X.2.2.2.2 (lw_V q913 q914 q915 q61 q916) rfl rfl rfl kd_X0_image ⟨by decide, by decide⟩) rfl rfl (Nat.le_of_ble_eq_true rfl) dL_law_1139 ⟨Nat.le_trans (by omega) hc, Nat.le_trans (by omega) hs⟩) (fun G1 hE hI1 => ?_)
  have hG1 : Gl_ G1 s := hG.ext hE
  have hz1 : gg_z G1 = s.heap.size := Eq.trans hE.2.2.1 hz
  have hbA : ¬ AA_ G1 b := ba_ hz1 hbl
  rw [← hE.2.2.2.2 0 (by decide), ← hE.2.2.2.2 90 (by decide)]
  refine jj_aload_n X dL_law_1142 2 rfl ?_
  refine jl_arg X hX hbl hbA 1 0 3 rfl rfl (by decide) (hin 1 (by decide)) dL_law_1143 dL_law_1144 dL_law_1145 dL_law_1146 dL_law_1147 ?_
  refine jl_ci (mc := 0) (ms := 0) (jr_V (rest := [.int r]) X hG1 (tg_90 hG1) (by decide) ⟨_, rfl⟩ rfl (mt_X6_image l G1 σ1 (xs (i + 1).toNatClampNeg) _ h2) (cwV 1 X.2.2.2.2 (lw_V q1329 q1330 q1331 q67 q1332) rfl rfl rfl kd_X6_image ⟨by decide, by decide⟩) rfl rfl (Nat.le_of_ble_eq_true rfl) dL_law_1148 ⟨Nat.le_trans (by omega) hc, Nat.le_trans (by omega) hs⟩) ?_
  refine jl_eq X 1239 dL_law_1151 (by decide) ?_
  exact jj_widen (by omega) (by omega) (K G1 σ2 hz1 hG1 (by rw [h4, h3]; exact hI1) hR2)
set_option maxHeartbeats 4000000 in
/-- from -/
theorem lc_33 (X : CallFix p m c cL_law 4 s #[Value.ref b] lw_all "LeftBehindLaw") (hX : va_X b L xs s s.heap) (hbl : b < s.heap.size) (hin : ∀ v : Int32, v = 1 ∨ v = 2 ∨ v = 3 ∨ v = 4 → vp_in (i + v) L) (hc : cells + 36 ≤ room_1.cells) (hs : slots + 240 ≤ room_1.slots) (K : Jl_ p l e s m below meth c b i (cells + 36) (slots + 240) 1239) : Jl_ p l e s m below meth c b i cells slots 1156 := by
  intro G σ hz hG hI hR
  have hbA : ¬ AA_ G b := ba_ hz hbl
  obtain ⟨r, σ1, σ2, h1, h2, hR2, h3, h4⟩ := op_from_z hR (xs (i + 1).toNatClampNeg)
  refine jj_aload_n X dL_law_1156 1 rfl ?_
  refine jl_arg X hX hbl hbA 1 0 3 rfl rfl (by decide) (hin 1 (by decide)) dL_law_1157 dL_law_1158 dL_law_1159 dL_law_1160 dL_law_1161 ?_
  refine jl_ci (mc := 0) (ms := 0) (jr_V (rest := []) X hG (tg_0 hG) (by decide) ⟨_, rfl⟩ rfl (mt_X0_from l G σ (xs (i + 1).toNatClampNeg) hI _ h1) (cwV 1 X.2.2.2.2 (lw_V q917 q918 q919 q61 q920) rfl rfl rfl kd_X0_from ⟨by decide, by decide⟩) rfl rfl (Nat.le_of_ble_eq_true rfl) dL_law_1162 ⟨Nat.le_trans (by omega) hc, Nat.le_trans (by omega) hs⟩) ?_
  refine jj_aload_n X dL_law_1165 2 rfl ?_
  refine jl_arg X hX hbl hbA 1 0 3 rfl rfl (by decide) (hin 1 (by decide)) dL_law_1166 dL_law_1167 dL_law_1168 dL_law_1169 dL_law_1170 ?_
  refine jl_ci (mc := 0) (ms := 0) (jr_V (rest := [.int r]) X hG (tg_90 hG) (by decide) ⟨_, rfl⟩ rfl (mt_X6_from l G σ1 (xs (i + 1).toNatClampNeg) _ h2) (cwV 1 X.2.2.2.2 (lw_V q1333 q1334 q1335 q67 q1336) rfl rfl rfl kd_X6_from ⟨by decide, by decide⟩) rfl rfl (Nat.le_of_ble_eq_true rfl) dL_law_1171 ⟨Nat.le_trans (by omega) hc, Nat.le_trans (by omega) hs⟩) ?_
  refine jl_eq X 1239 dL_law_1174 (by decide) ?_
  exact jj_widen (by omega) (by omega) (K G σ2 hz hG (by rw [h4, h3]; exact hI) hR2)
set_option maxHeartbeats 4000000 in
/-- status -/
theorem lc_34 (X : CallFix p m c cL_law 4 s #[Value.ref b] lw_all "LeftBehindLaw") (hX : va_X b L xs s s.heap) (hbl : b < s.heap.size) (hin : ∀ v : Int32, v = 1 ∨ v = 2 ∨ v = 3 ∨ v = 4 → vp_in (i + v) L) (hc : cells + 36 ≤ room_1.cells) (hs : slots + 240 ≤ room_1.slots) (K : Jl_ p l e s m below meth c b i (cells + 36) (slots + 240) 1239) : Jl_ p l e s m below meth c b i cells slots 1179 := by
  intro G σ hz hG hI hR
  have hbA : ¬ AA_ G b := ba_ hz hbl
  obtain ⟨r, σ1, σ2, h1, h2, hR2, h3, h4⟩ := op_status_z hR (xs (i + 1).toNatClampNeg)
  refine jj_aload_n X dL_law_1179 1 rfl ?_
  refine jl_arg X hX hbl hbA 1 0 3 rfl rfl (by decide) (hin 1 (by decide)) dL_law_1180 dL_law_1181 dL_law_1182 dL_law_1183 dL_law_1184 ?_
  refine jl_ci (mc := 0) (ms := 0) (jr_V (rest := []) X hG (tg_0 hG) (by decide) ⟨_, rfl⟩ rfl (mt_X0_status l G σ (xs (i + 1).toNatClampNeg) _ h1) (cwV 1 X.2.2.2.2 (lw_V q921 q922 q923 q61 q924) rfl rfl rfl kd_X0_status ⟨by decide, by decide⟩) rfl rfl (Nat.le_of_ble_eq_true rfl) dL_law_1185 ⟨Nat.le_trans (by omega) hc, Nat.le_trans (by omega) hs⟩) ?_
  refine jj_aload_n X dL_law_1188 2 rfl ?_
  refine jl_arg X hX hbl hbA 1 0 3 rfl rfl (by decide) (hin 1 (by decide)) dL_law_1189 dL_law_1190 dL_law_1191 dL_law_1192 dL_law_1193 ?_
  refine jl_ci (mc := 0) (ms := 0) (jr_V (rest := [.int r]) X hG (tg_90 hG) (by decide) ⟨_, rfl⟩ rfl (mt_X6_status l G σ1 (xs (i + 1).toNatClampNeg) _ h2) (cwV 1 X.2.2.2.2 (lw_V q1337 q1338 q1339 q67 q1340) rfl rfl rfl kd_X6_status ⟨by decide, by decide⟩) rfl rfl (Nat.le_of_ble_eq_true rfl) dL_law_1194 ⟨Nat.le_trans (by omega) hc, Nat.le_trans (by omega) hs⟩) ?_
  refine jl_eq X 1239 dL_law_1197 (by decide) ?_
  exact jj_widen (by omega) (by omega) (K G σ2 hz hG (by rw [h4, h3]; exact hI) hR2)
set_option maxHeartbeats 4000000 in
/-- count -/
theorem lc_35 (X : CallFix p m c cL_law 4 s #[Value.ref b] lw_all "LeftBehindLaw") (hX : va_X b L xs s s.heap) (hbl : b < s.heap.size) (hin : ∀ v : Int32, v = 1 ∨ v = 2 ∨ v = 3 ∨ v = 4 → vp_in (i + v) L) (hc : cells + 36 ≤ room_1.cells) (hs : slots + 240 ≤ room_1.slots) (K : Jl_ p l e s m below meth c b i (cells + 36) (slots + 240) 1239) : Jl_ p l e s m below meth c b i cells slots 1202 := by
  intro G σ hz hG hI hR
  have hbA : ¬ AA_ G b := ba_ hz hbl
  obtain ⟨r, σ1, σ2, h1, h2, hR2, h3, h4⟩ := op_count_z hR (xs (i + 1).toNatClampNeg)
  refine jj_aload_n X dL_law_1202 1 rfl ?_
  refine jl_arg X hX hbl hbA 1 0 3 rfl rfl (by decide) (hin 1 (by decide)) dL_law_1203 dL_law_1204 dL_law_1205 dL_law_1206 dL_law_1207 ?_
  refine jl_ci (mc := 0) (ms := 0) (jr_V (rest := []) X hG (tg_0 hG) (by decide) ⟨_, rfl⟩ rfl (mt_X0_count l G σ (xs (i + 1).toNatClampNeg) _ h1) (cwV 1 X.2.2.2.2 (lw_V q925 q926 q927 q61 q928) rfl rfl rfl kd_X0_count ⟨by decide, by decide⟩) rfl rfl (Nat.le_of_ble_eq_true rfl) dL_law_1208 ⟨Nat.le_trans (by omega) hc, Nat.le_trans (by omega) hs⟩) ?_
  refine jj_aload_n X dL_law_1211 2 rfl ?_
  refine jl_arg X hX hbl hbA 1 0 3 rfl rfl (by decide) (hin 1 (by decide)) dL_law_1212 dL_law_1213 dL_law_1214 dL_law_1215 dL_law_1216 ?_
  refine jl_ci (mc := 0) (ms := 0) (jr_V (rest := [.int r]) X hG (tg_90 hG) (by decide) ⟨_, rfl⟩ rfl (mt_X6_count l G σ1 (xs (i + 1).toNatClampNeg) _ h2) (cwV 1 X.2.2.2.2 (lw_V q1341 q1342 q1343 q67 q1344) rfl rfl rfl kd_X6_count ⟨by decide, by decide⟩) rfl rfl (Nat.le_of_ble_eq_true rfl) dL_law_1217 ⟨Nat.le_trans (by omega) hc, Nat.le_trans (by omega) hs⟩) ?_
  refine jl_eq X 1239 dL_law_1220 (by decide) ?_
  exact jj_widen (by omega) (by omega) (K G σ2 hz hG (by rw [h4, h3]; exact hI) hR2)
set_option maxHeartbeats 4000000 in
/-- digest -/
theorem lc_36 (X : CallFix p m c cL_law 4 s #[Value.ref b] lw_all "LeftBehindLaw") (hX : va_X b L xs s s.heap) (hbl : b < s.heap.size) (hin : ∀ v : Int32, v = 1 ∨ v = 2 ∨ v = 3 ∨ v = 4 → vp_in (i + v) L) (hc : cells + 36 ≤ room_1.cells) (hs : slots + 240 ≤ room_1.slots) (K : Jl_ p l e s m below meth c b i (cells + 36) (slots + 240) 1239) : Jl_ p l e s m below meth c b i cells slots 1225 := by
  intro G σ hz hG hI hR
  have hbA : ¬ AA_ G b := ba_ hz hbl
  obtain ⟨r, h1, h2⟩ := op_digest_z hR
  refine jj_aload_n X dL_law_1225 1 rfl ?_
  refine jl_cl (mc := 0) (ms := 0) (jr_V (rest := []) X hG (tg_0 hG) (by decide) ⟨_, rfl⟩ rfl (mt_X0_digest l G σ _ h1) (cwV 0 X.2.2.2.2 (lw_V q937 q938 q939 q61 q940) rfl rfl rfl kd_X0_digest ⟨by decide, by decide⟩) rfl rfl (Nat.le_of_ble_eq_true rfl) dL_law_1226 ⟨Nat.le_trans (by omega) hc, Nat.le_trans (by omega) hs⟩) ?_
  refine jj_aload_n X dL_law_1229 2 rfl ?_
  refine jl_cl (mc := 0) (ms := 0) (jr_V (rest := [.long r]) X hG (tg_90 hG) (by decide) ⟨_, rfl⟩ rfl (mt_X6_digest l G σ _ h2) (cwV 0 X.2.2.2.2 (lw_V q1349 q1350 q1351 q67 q1352) rfl rfl rfl kd_X6_digest ⟨by decide, by decide⟩) rfl rfl (Nat.le_of_ble_eq_true rfl) dL_law_1230 ⟨Nat.le_trans (by omega) hc, Nat.le_trans (by omega) hs⟩) ?_
  refine jl_leq X 1239 dL_law_1233 dL_law_1234 (by decide) ?_
  exact jj_widen (by omega) (by omega) (K G σ hz hG hI hR)
end LC
