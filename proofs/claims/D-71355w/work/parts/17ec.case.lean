set_option maxRecDepth 100000
section LC
variable {p : Program} {l : Launch} {e : Env} {s : State} {m : MethodId} {below : List Frame} {meth : Method} {c : Code} {b L : Nat} {xs : Nat → Int32} {i : Int32} {cells slots : Nat}
set_option maxHeartbeats 4000000 in
/-- tell -/
theorem lc_20 (X : CallFix p m c cL_law 4 s #[Value.ref b] lw_all "LeftBehindLaw") (hX : va_X b L xs s s.heap) (hbl : b < s.heap.size) (hin : ∀ v : Int32, v = 1 ∨ v = 2 ∨ v = 3 ∨ v = 4 → vp_in (i + v) L) (hc : cells + 36 ≤ room_1.cells) (hs : slots + 240 ≤ room_1.slots) (K : Jl_ p l e s m below meth c b i (cells + 36) (slots + 240) 1239) : Jl_ p l e s m below meth c b i cells slots 756 := by
  intro G σ hz hG hI hR
  have hbA : ¬ AA_ G b := ba_ hz hbl
  obtain ⟨r, σ1, σ2, h1, h2, hR2, h3, h4⟩ := op_tell_z hR (xs (i + 1).toNatClampNeg)
  refine jj_aload_n X dL_law_756 1 rfl ?_
  refine jl_arg X hX hbl hbA 1 0 3 rfl rfl (by decide) (hin 1 (by decide)) dL_law_757 dL_law_758 dL_law_759 dL_law_760 dL_law_761 ?_
  refine jl_ci (mc := 0) (ms := 0) (jr_V (rest := []) X hG (tg_0 hG) (by decide) ⟨_, rfl⟩ rfl (mt_X0_tell l G σ (xs (i + 1).toNatClampNeg) _ h1) (cwV 1 X.2.2.2.2 (lw_V q819 q820 q821 q61 q822) rfl rfl rfl kd_X0_tell ⟨by decide, by decide⟩) rfl rfl (Nat.le_of_ble_eq_true rfl) dL_law_762 ⟨Nat.le_trans (by omega) hc, Nat.le_trans (by omega) hs⟩) ?_
  refine jj_aload_n X dL_law_765 2 rfl ?_
  refine jl_arg X hX hbl hbA 1 0 3 rfl rfl (by decide) (hin 1 (by decide)) dL_law_766 dL_law_767 dL_law_768 dL_law_769 dL_law_770 ?_
  refine jl_ci (mc := 0) (ms := 0) (jr_V (rest := [.int r]) X hG (tg_90 hG) (by decide) ⟨_, rfl⟩ rfl (mt_X6_tell l G σ1 (xs (i + 1).toNatClampNeg) _ h2) (cwV 1 X.2.2.2.2 (lw_V q1183 q1184 q1185 q67 q1186) rfl rfl rfl kd_X6_tell ⟨by decide, by decide⟩) rfl rfl (Nat.le_of_ble_eq_true rfl) dL_law_771 ⟨Nat.le_trans (by omega) hc, Nat.le_trans (by omega) hs⟩) ?_
  refine jl_eq X 1239 dL_law_774 (by decide) ?_
  exact jj_widen (by omega) (by omega) (K G σ2 hz hG (by rw [h4, h3]; exact hI) hR2)
set_option maxHeartbeats 4000000 in
/-- note -/
theorem lc_21 (X : CallFix p m c cL_law 4 s #[Value.ref b] lw_all "LeftBehindLaw") (hX : va_X b L xs s s.heap) (hbl : b < s.heap.size) (hin : ∀ v : Int32, v = 1 ∨ v = 2 ∨ v = 3 ∨ v = 4 → vp_in (i + v) L) (hc : cells + 36 ≤ room_1.cells) (hs : slots + 240 ≤ room_1.slots) (K : Jl_ p l e s m below meth c b i (cells + 36) (slots + 240) 1239) : Jl_ p l e s m below meth c b i cells slots 779 := by
  intro G σ hz hG hI hR
  have hbA : ¬ AA_ G b := ba_ hz hbl
  obtain ⟨r, σ1, σ2, h1, h2, hR2, h3, h4⟩ := op_note_z hR (xs (i + 1).toNatClampNeg) (xs (i + 2).toNatClampNeg) (xs (i + 3).toNatClampNeg) (xs (i + 4).toNatClampNeg)
  refine jj_aload_n X dL_law_779 1 rfl ?_
  refine jl_arg X hX hbl hbA 1 0 3 rfl rfl (by decide) (hin 1 (by decide)) dL_law_780 dL_law_781 dL_law_782 dL_law_783 dL_law_784 ?_
  refine jl_arg X hX hbl hbA 2 0 3 rfl rfl (by decide) (hin 2 (by decide)) dL_law_785 dL_law_786 dL_law_787 dL_law_788 dL_law_789 ?_
  refine jl_arg X hX hbl hbA 3 0 3 rfl rfl (by decide) (hin 3 (by decide)) dL_law_790 dL_law_791 dL_law_792 dL_law_793 dL_law_794 ?_
  refine jl_arg X hX hbl hbA 4 0 3 rfl rfl (by decide) (hin 4 (by decide)) dL_law_795 dL_law_796 dL_law_797 dL_law_798 dL_law_799 ?_
  refine jl_ci (mc := 0) (ms := 0) (jr_V (rest := []) X hG (tg_0 hG) (by decide) ⟨_, rfl⟩ rfl (mt_X0_note l G σ (xs (i + 1).toNatClampNeg) (xs (i + 2).toNatClampNeg) (xs (i + 3).toNatClampNeg) (xs (i + 4).toNatClampNeg) _ h1) (cwV 4 X.2.2.2.2 (lw_V q830 q831 q832 q61 q833) rfl rfl rfl kd_X0_note ⟨by decide, by decide⟩) rfl rfl (Nat.le_of_ble_eq_true rfl) dL_law_800 ⟨Nat.le_trans (by omega) hc, Nat.le_trans (by omega) hs⟩) ?_
  refine jj_aload_n X dL_law_803 2 rfl ?_
  refine jl_arg X hX hbl hbA 1 0 3 rfl rfl (by decide) (hin 1 (by decide)) dL_law_804 dL_law_805 dL_law_806 dL_law_807 dL_law_808 ?_
  refine jl_arg X hX hbl hbA 2 0 3 rfl rfl (by decide) (hin 2 (by decide)) dL_law_809 dL_law_810 dL_law_811 dL_law_812 dL_law_813 ?_
  refine jl_arg X hX hbl hbA 3 0 3 rfl rfl (by decide) (hin 3 (by decide)) dL_law_814 dL_law_815 dL_law_816 dL_law_817 dL_law_818 ?_
  refine jl_arg X hX hbl hbA 4 0 3 rfl rfl (by decide) (hin 4 (by decide)) dL_law_819 dL_law_820 dL_law_821 dL_law_822 dL_law_823 ?_
  refine jl_ci (mc := 0) (ms := 0) (jr_V (rest := [.int r]) X hG (tg_90 hG) (by decide) ⟨_, rfl⟩ rfl (mt_X6_note l G σ1 (xs (i + 1).toNatClampNeg) (xs (i + 2).toNatClampNeg) (xs (i + 3).toNatClampNeg) (xs (i + 4).toNatClampNeg) _ h2) (cwV 4 X.2.2.2.2 (lw_V q1187 q1188 q1189 q67 q1190) rfl rfl rfl kd_X6_note ⟨by decide, by decide⟩) rfl rfl (Nat.le_of_ble_eq_true rfl) dL_law_824 ⟨Nat.le_trans (by omega) hc, Nat.le_trans (by omega) hs⟩) ?_
  refine jl_eq X 1239 dL_law_827 (by decide) ?_
  exact jj_widen (by omega) (by omega) (K G σ2 hz hG (by rw [h4, h3]; exact hI) hR2)
set_option maxHeartbeats 4000000 in
/-- mark -/
theorem lc_22 (X : CallFix p m c cL_law 4 s #[Value.ref b] lw_all "LeftBehindLaw") (hX : va_X b L xs s s.heap) (hbl : b < s.heap.size) (hin : ∀ v : Int32, v = 1 ∨ v = 2 ∨ v = 3 ∨ v = 4 → vp_in (i + v) L) (hc : cells + 36 ≤ room_1.cells) (hs : slots + 240 ≤ room_1.slots) (K : Jl_ p l e s m below meth c b i (cells + 36) (slots + 240) 1239) : Jl_ p l e s m below meth c b i cells slots 832 := by
  intro G σ hz hG hI hR
  have hbA : ¬ AA_ G b := ba_ hz hbl
  obtain ⟨r, σ1, σ2, h1, h2, hR2, h3, h4⟩ := op_mark_z hR (xs (i + 1).toNatClampNeg) (xs (i + 2).toNatClampNeg) (xs (i + 3).toNatClampNeg) (xs (i + 4).toNatClampNeg)
  refine jj_aload_n X dL_law_832 1 rfl ?_
  refine jl_arg X hX hbl hbA 1 0 3 rfl rfl (by decide) (hin 1 (by decide)) dL_law_833 dL_law_834 dL_law_835 dL_law_836 dL_law_837 ?_
  refine jl_arg X hX hbl hbA 2 0 3 rfl rfl (by decide) (hin 2 (by decide)) dL_law_838 dL_law_839 dL_law_840 dL_law_841 dL_law_842 ?_
  refine jl_arg X hX hbl hbA 3 0 3 rfl rfl (by decide) (hin 3 (by decide)) dL_law_843 dL_law_844 dL_law_845 dL_law_846 dL_law_847 ?_
  refine jl_arg X hX hbl hbA 4 0 3 rfl rfl (by decide) (hin 4 (by decide)) dL_law_848 dL_law_849 dL_law_850 dL_law_851 dL_law_852 ?_
  refine jl_ci (mc := 0) (ms := 0) (jr_V (rest := []) X hG (tg_0 hG) (by decide) ⟨_, rfl⟩ rfl (mt_X0_mark l G σ (xs (i + 1).toNatClampNeg) (xs (i + 2).toNatClampNeg) (xs (i + 3).toNatClampNeg) (xs (i + 4).toNatClampNeg) _ h1) (cwV 4 X.2.2.2.2 (lw_V q834 q835 q836 q61 q837) rfl rfl rfl kd_X0_mark ⟨by decide, by decide⟩) rfl rfl (Nat.le_of_ble_eq_true rfl) dL_law_853 ⟨Nat.le_trans (by omega) hc, Nat.le_trans (by omega) hs⟩) ?_
  refine jj_aload_n X dL_law_856 2 rfl ?_
  refine jl_arg X hX hbl hbA 1 0 3 rfl rfl (by decide) (hin 1 (by decide)) dL_law_857 dL_law_858 dL_law_859 dL_law_860 dL_law_861 ?_
  refine jl_arg X hX hbl hbA 2 0 3 rfl rfl (by decide) (hin 2 (by decide)) dL_law_862 dL_law_863 dL_law_864 dL_law_865 dL_law_866 ?_
  refine jl_arg X hX hbl hbA 3 0 3 rfl rfl (by decide) (hin 3 (by decide)) dL_law_867 dL_law_868 dL_law_869 dL_law_870 dL_law_871 ?_
  refine jl_arg X hX hbl hbA 4 0 3 rfl rfl (by decide) (hin 4 (by decide)) dL_law_872 dL_law_873 dL_law_874 dL_law_875 dL_law_876 ?_
  refine jl_ci (mc := 0) (ms := 0) (jr_V (rest := [.int r]) X hG (tg_90 hG) (by decide) ⟨_, rfl⟩ rfl (mt_X6_mark l G σ1 (xs (i + 1).toNatClampNeg) (xs (i + 2).toNatClampNeg) (xs (i + 3).toNatClampNeg) (xs (i + 4).toNatClampNeg) _ h2) (cwV 4 X.2.2.2.2 (lw_V q1191 q1192 q1193 q67 q1194) rfl rfl rfl kd_X6_mark ⟨by decide, by decide⟩) rfl rfl (Nat.le_of_ble_eq_true rfl) dL_law_877 ⟨Nat.le_trans (by omega) hc, Nat.le_trans (by omega) hs⟩) ?_
  refine jl_eq X 1239 dL_law_880 (by decide) ?_
  exact jj_widen (by omega) (by omega) (K G σ2 hz hG (by rw [h4, h3]; exact hI) hR2)
set_option maxHeartbeats 4000000 in
/-- forget -/
theorem lc_23 (X : CallFix p m c cL_law 4 s #[Value.ref b] lw_all "LeftBehindLaw") (hX : va_X b L xs s s.heap) (hbl : b < s.heap.size) (hin : ∀ v : Int32, v = 1 ∨ v = 2 ∨ v = 3 ∨ v = 4 → vp_in (i + v) L) (hc : cells + 36 ≤ room_1.cells) (hs : slots + 240 ≤ room_1.slots) (K : Jl_ p l e s m below meth c b i (cells + 36) (slots + 240) 1239) : Jl_ p l e s m below meth c b i cells slots 885 := by
  intro G σ hz hG hI hR
  have hbA : ¬ AA_ G b := ba_ hz hbl
  obtain ⟨r, σ1, σ2, h1, h2, hR2, h3, h4⟩ := op_forget_z hR (xs (i + 1).toNatClampNeg)
  refine jj_aload_n X dL_law_885 1 rfl ?_
  refine jl_arg X hX hbl hbA 1 0 3 rfl rfl (by decide) (hin 1 (by decide)) dL_law_886 dL_law_887 dL_law_888 dL_law_889 dL_law_890 ?_
  refine jl_ci (mc := 0) (ms := 0) (jr_V (rest := []) X hG (tg_0 hG) (by decide) ⟨_, rfl⟩ rfl (mt_X0_forget l G σ (xs (i + 1).toNatClampNeg) _ h1) (cwV 1 X.2.2.2.2 (lw_V q839 q840 q841 q61 q842) rfl rfl rfl kd_X0_forget ⟨by decide, by decide⟩) rfl rfl (Nat.le_of_ble_eq_true rfl) dL_law_891 ⟨Nat.le_trans (by omega) hc, Nat.le_trans (by omega) hs⟩) ?_
  refine jj_aload_n X dL_law_894 2 rfl ?_
  refine jl_arg X hX hbl hbA 1 0 3 rfl rfl (by decide) (hin 1 (by decide)) dL_law_895 dL_law_896 dL_law_897 dL_law_898 dL_law_899 ?_
  refine jl_ci (mc := 0) (ms := 0) (jr_V (rest := [.int r]) X hG (tg_90 hG) (by decide) ⟨_, rfl⟩ rfl (mt_X6_forget l G σ1 (xs (i + 1).toNatClampNeg) _ h2) (cwV 1 X.2.2.2.2 (lw_V q1196 q1197 q1198 q67 q1199) rfl rfl rfl kd_X6_forget ⟨by decide, by decide⟩) rfl rfl (Nat.le_of_ble_eq_true rfl) dL_law_900 ⟨Nat.le_trans (by omega) hc, Nat.le_trans (by omega) hs⟩) ?_
  refine jl_eq X 1239 dL_law_903 (by decide) ?_
  exact jj_widen (by omega) (by omega) (K G σ2 hz hG (by rw [h4, h3]; exact hI) hR2)
set_option maxHeartbeats 4000000 in
/-- is -/
theorem lc_24 (X : CallFix p m c cL_law 4 s #[Value.ref b] lw_all "LeftBehindLaw") (hX : va_X b L xs s s.heap) (hbl : b < s.heap.size) (hin : ∀ v : Int32, v = 1 ∨ v = 2 ∨ v = 3 ∨ v = 4 → vp_in (i + v) L) (hc : cells + 36 ≤ room_1.cells) (hs : slots + 240 ≤ room_1.slots) (K : Jl_ p l e s m below meth c b i (cells + 36) (slots + 240) 1239) : Jl_ p l e s m below meth c b i cells slots 908 := by
  intro G σ hz hG hI hR
  have hbA : ¬ AA_ G b := ba_ hz hbl
  obtain ⟨r, σ1, σ2, h1, h2, hR2, h3, h4⟩ := op_is_z hR (xs (i + 1).toNatClampNeg)
  refine jj_aload_n X dL_law_908 1 rfl ?_
  refine jl_arg X hX hbl hbA 1 0 3 rfl rfl (by decide) (hin 1 (by decide)) dL_law_909 dL_law_910 dL_law_911 dL_law_912 dL_law_913 ?_
  refine jl_ci (mc := 0) (ms := 0) (jr_V (rest := []) X hG (tg_0 hG) (by decide) ⟨_, rfl⟩ rfl (mt_X0_is l G σ (xs (i + 1).toNatClampNeg) _ h1) (cwV 1 X.2.2.2.2 (lw_V q843 q844 q845 q61 q846) rfl rfl rfl kd_X0_is ⟨by decide, by decide⟩) rfl rfl (Nat.le_of_ble_eq_true rfl) dL_law_914 ⟨Nat.le_trans (by omega) hc, Nat.le_trans (by omega) hs⟩) ?_
  refine jj_aload_n X dL_law_917 2 rfl ?_
  refine jl_arg X hX hbl hbA 1 0 3 rfl rfl (by decide) (hin 1 (by decide)) dL_law_918 dL_law_919 dL_law_920 dL_law_921 dL_law_922 ?_
  refine jl_ci (mc := 0) (ms := 0) (jr_V (rest := [.int r]) X hG (tg_90 hG) (by decide) ⟨_, rfl⟩ rfl (mt_X6_is l G σ1 (xs (i + 1).toNatClampNeg) _ h2) (cwV 1 X.2.2.2.2 (lw_V q1200 q1201 q1202 q67 q1203) rfl rfl rfl kd_X6_is ⟨by decide, by decide⟩) rfl rfl (Nat.le_of_ble_eq_true rfl) dL_law_923 ⟨Nat.le_trans (by omega) hc, Nat.le_trans (by omega) hs⟩) ?_
  refine jl_eq X 1239 dL_law_926 (by decide) ?_
  exact jj_widen (by omega) (by omega) (K G σ2 hz hG (by rw [h4, h3]; exact hI) hR2)
set_option maxHeartbeats 4000000 in
/-- look -/
theorem lc_25 (X : CallFix p m c cL_law 4 s #[Value.ref b] lw_all "LeftBehindLaw") (hX : va_X b L xs s s.heap) (hbl : b < s.heap.size) (hin : ∀ v : Int32, v = 1 ∨ v = 2 ∨ v = 3 ∨ v = 4 → vp_in (i + v) L) (hc : cells + 36 ≤ room_1.cells) (hs : slots + 240 ≤ room_1.slots) (K : Jl_ p l e s m below meth c b i (cells + 36) (slots + 240) 1239) : Jl_ p l e s m below meth c b i cells slots 931 := by
  intro G σ hz hG hI hR
  have hbA : ¬ AA_ G b := ba_ hz hbl
  obtain ⟨r, σ1, σ2, h1, h2, hR2, h3, h4⟩ := op_look_z hR (xs (i + 1).toNatClampNeg)
  refine jj_aload_n X dL_law_931 1 rfl ?_
  refine jl_arg X hX hbl hbA 1 0 3 rfl rfl (by decide) (hin 1 (by decide)) dL_law_932 dL_law_933 dL_law_934 dL_law_935 dL_law_936 ?_
  refine jl_ci (mc := 0) (ms := 0) (jr_V (rest := []) X hG (tg_0 hG) (by decide) ⟨_, rfl⟩ rfl (mt_X0_look l G σ (xs (i + 1).toNatClampNeg) _ h1) (cwV 1 X.2.2.2.2 (lw_V q853 q854 q855 q61 q856) rfl rfl rfl kd_X0_look ⟨by decide, by decide⟩) rfl rfl (Nat.le_of_ble_eq_true rfl) dL_law_937 ⟨Nat.le_trans (by omega) hc, Nat.le_trans (by omega) hs⟩) ?_
  refine jj_aload_n X dL_law_940 2 rfl ?_
  refine jl_arg X hX hbl hbA 1 0 3 rfl rfl (by decide) (hin 1 (by decide)) dL_law_941 dL_law_942 dL_law_943 dL_law_944 dL_law_945 ?_
  refine jl_ci (mc := 0) (ms := 0) (jr_V (rest := [.int r]) X hG (tg_90 hG) (by decide) ⟨_, rfl⟩ rfl (mt_X6_look l G σ1 (xs (i + 1).toNatClampNeg) _ h2) (cwV 1 X.2.2.2.2 (lw_V q1212 q1213 q1214 q67 q1215) rfl rfl rfl kd_X6_look ⟨by decide, by decide⟩) rfl rfl (Nat.le_of_ble_eq_true rfl) dL_law_946 ⟨Nat.le_trans (by omega) hc, Nat.le_trans (by omega) hs⟩) ?_
  refine jl_eq X 1239 dL_law_949 (by decide) ?_
  exact jj_widen (by omega) (by omega) (K G σ2 hz hG (by rw [h4, h3]; exact hI) hR2)
set_option maxHeartbeats 4000000 in
/-- kinds -/
theorem lc_26 (X : CallFix p m c cL_law 4 s #[Value.ref b] lw_all "LeftBehindLaw") (hX : va_X b L xs s s.heap) (hbl : b < s.heap.size) (hin : ∀ v : Int32, v = 1 ∨ v = 2 ∨ v = 3 ∨ v = 4 → vp_in (i + v) L) (hc : cells + 36 ≤ room_1.cells) (hs : slots + 240 ≤ room_1.slots) (K : Jl_ p l e s m below meth c b i (cells + 36) (slots + 240) 1239) : Jl_ p l e s m below meth c b i cells slots 954 := by
  intro G σ hz hG hI hR
  have hbA : ¬ AA_ G b := ba_ hz hbl
  obtain ⟨r, σ1, σ2, h1, h2, hR2, h3, h4⟩ := op_kinds_z hR (xs (i + 1).toNatClampNeg)
  refine jj_aload_n X dL_law_954 1 rfl ?_
  refine jl_arg X hX hbl hbA 1 0 3 rfl rfl (by decide) (hin 1 (by decide)) dL_law_955 dL_law_956 dL_law_957 dL_law_958 dL_law_959 ?_
  refine jl_ci (mc := 0) (ms := 0) (jr_V (rest := []) X hG (tg_0 hG) (by decide) ⟨_, rfl⟩ rfl (mt_X0_kinds l G σ (xs (i + 1).toNatClampNeg) _ h1) (cwV 1 X.2.2.2.2 (lw_V q860 q861 q862 q61 q863) rfl rfl rfl kd_X0_kinds ⟨by decide, by decide⟩) rfl rfl (Nat.le_of_ble_eq_true rfl) dL_law_960 ⟨Nat.le_trans (by omega) hc, Nat.le_trans (by omega) hs⟩) ?_
  refine jj_aload_n X dL_law_963 2 rfl ?_
  refine jl_arg X hX hbl hbA 1 0 3 rfl rfl (by decide) (hin 1 (by decide)) dL_law_964 dL_law_965 dL_law_966 dL_law_967 dL_law_968 ?_
  refine jl_ci (mc := 0) (ms := 0) (jr_V (rest := [.int r]) X hG (tg_90 hG) (by decide) ⟨_, rfl⟩ rfl (mt_X6_kinds l G σ1 (xs (i + 1).toNatClampNeg) _ h2) (cwV 1 X.2.2.2.2 (lw_V q1223 q1224 q1225 q67 q1226) rfl rfl rfl kd_X6_kinds ⟨by decide, by decide⟩) rfl rfl (Nat.le_of_ble_eq_true rfl) dL_law_969 ⟨Nat.le_trans (by omega) hc, Nat.le_trans (by omega) hs⟩) ?_
  refine jl_eq X 1239 dL_law_972 (by decide) ?_
  exact jj_widen (by omega) (by omega) (K G σ2 hz hG (by rw [h4, h3]; exact hI) hR2)
set_option maxHeartbeats 4000000 in
/-- ask -/
theorem lc_27 (X : CallFix p m c cL_law 4 s #[Value.ref b] lw_all "LeftBehindLaw") (hX : va_X b L xs s s.heap) (hbl : b < s.heap.size) (hin : ∀ v : Int32, v = 1 ∨ v = 2 ∨ v = 3 ∨ v = 4 → vp_in (i + v) L) (hc : cells + 36 ≤ room_1.cells) (hs : slots + 240 ≤ room_1.slots) (K : Jl_ p l e s m below meth c b i (cells + 36) (slots + 240) 1239) : Jl_ p l e s m below meth c b i cells slots 977 := by
  intro G σ hz hG hI hR
  have hbA : ¬ AA_ G b := ba_ hz hbl
  obtain ⟨r, σ1, σ2, h1, h2, hR2, h3, h4⟩ := op_ask_z hR (xs (i + 1).toNatClampNeg)
  refine jj_aload_n X dL_law_977 1 rfl ?_
  refine jl_arg X hX hbl hbA 1 0 3 rfl rfl (by decide) (hin 1 (by decide)) dL_law_978 dL_law_979 dL_law_980 dL_law_981 dL_law_982 ?_
  refine jl_ci (mc := 0) (ms := 0) (jr_V (rest := []) X hG (tg_0 hG) (by decide) ⟨_, rfl⟩ rfl (mt_X0_ask l G σ (xs (i + 1).toNatClampNeg) _ h1) (cwV 1 X.2.2.2.2 (lw_V q869 q870 q871 q61 q872) rfl rfl rfl kd_X0_ask ⟨by decide, by decide⟩) rfl rfl (Nat.le_of_ble_eq_true rfl) dL_law_983 ⟨Nat.le_trans (by omega) hc, Nat.le_trans (by omega) hs⟩) ?_
  refine jj_aload_n X dL_law_986 2 rfl ?_
  refine jl_arg X hX hbl hbA 1 0 3 rfl rfl (by decide) (hin 1 (by decide)) dL_law_987 dL_law_988 dL_law_989 dL_law_990 dL_law_991 ?_
  refine jl_ci (mc := 0) (ms := 0) (jr_V (rest := [.int r]) X hG (tg_90 hG) (by decide) ⟨_, rfl⟩ rfl (mt_X6_ask l G σ1 (xs (i + 1).toNatClampNeg) _ h2) (cwV 1 X.2.2.2.2 (lw_V q1231 q1232 q1233 q67 q1234) rfl rfl rfl kd_X6_ask ⟨by decide, by decide⟩) rfl rfl (Nat.le_of_ble_eq_true rfl) dL_law_992 ⟨Nat.le_trans (by omega) hc, Nat.le_trans (by omega) hs⟩) ?_
  refine jl_eq X 1239 dL_law_995 (by decide) ?_
  exact jj_widen (by omega) (by omega) (K G σ2 hz hG (by rw [h4, h3]; exact hI) hR2)
set_option maxHeartbeats 4000000 in
/-- water -/
theorem lc_28 (X : CallFix p m c cL_law 4 s #[Value.ref b] lw_all "LeftBehindLaw") (hX : va_X b L xs s s.heap) (hbl : b < s.heap.size) (hin : ∀ v : Int32, v = 1 ∨ v = 2 ∨ v = 3 ∨ v = 4 → vp_in (i + v) L) (hc : cells + 36 ≤ room_1.cells) (hs : slots + 240 ≤ room_1.slots) (K : Jl_ p l e s m below meth c b i (cells + 36) (slots + 240) 1239) : Jl_ p l e s m below meth c b i cells slots 1000 := by
  intro G σ hz hG hI hR
  have hbA : ¬ AA_ G b := ba_ hz hbl
  obtain ⟨r, σ1, σ2, h1, h2, hR2, h3, h4⟩ := op_water_z hR (xs (i + 1).toNatClampNeg) (xs (i + 2).toNatClampNeg) (xs (i + 3).toNatClampNeg)
  refine jj_aload_n X dL_law_1000 1 rfl ?_
  refine jl_arg X hX hbl hbA 1 0 3 rfl rfl (by decide) (hin 1 (by decide)) dL_law_1001 dL_law_1002 dL_law_1003 dL_law_1004 dL_law_1005 ?_
  refine jl_arg X hX hbl hbA 2 0 3 rfl rfl (by decide) (hin 2 (by decide)) dL_law_1006 dL_law_1007 dL_law_1008 dL_law_1009 dL_law_1010 ?_
  refine jl_arg X hX hbl hbA 3 0 3 rfl rfl (by decide) (hin 3 (by decide)) dL_law_1011 dL_law_1012 dL_law_1013 dL_law_1014 dL_law_1015 ?_
  refine jl_ci (mc := 0) (ms := 0) (jr_V (rest := []) X hG (tg_0 hG) (by decide) ⟨_, rfl⟩ rfl (mt_X0_water l G σ (xs (i + 1).toNatClampNeg) (xs (i + 2).toNatClampNeg) (xs (i + 3).toNatClampNeg) _ h1) (cwV 3 X.2.2.2.2 (lw_V q873 q874 q875 q61 q876) rfl rfl rfl kd_X0_water ⟨by decide, by decide⟩) rfl rfl (Nat.le_of_ble_eq_true rfl) dL_law_1016 ⟨Nat.le_trans (by omega) hc, Nat.le_trans (by omega) hs⟩) ?_
  refine jj_aload_n X dL_law_1019 2 rfl ?_
  refine jl_arg X hX hbl hbA 1 0 3 rfl rfl (by decide) (hin 1 (by decide)) dL_law_1020 dL_law_1021 dL_law_1022 dL_law_1023 dL_law_1024 ?_
  refine jl_arg X hX hbl hbA 2 0 3 rfl rfl (by decide) (hin 2 (by decide)) dL_law_1025 dL_law_1026 dL_law_1027 dL_law_1028 dL_law_1029 ?_
  refine jl_arg X hX hbl hbA 3 0 3 rfl rfl (by decide) (hin 3 (by decide)) dL_law_1030 dL_law_1031 dL_law_1032 dL_law_1033 dL_law_1034 ?_
  refine jl_ci (mc := 0) (ms := 0) (jr_V (rest := [.int r]) X hG (tg_90 hG) (by decide) ⟨_, rfl⟩ rfl (mt_X6_water l G σ1 (xs (i + 1).toNatClampNeg) (xs (i + 2).toNatClampNeg) (xs (i + 3).toNatClampNeg) _ h2) (cwV 3 X.2.2.2.2 (lw_V q1235 q1236 q1237 q67 q1238) rfl rfl rfl kd_X6_water ⟨by decide, by decide⟩) rfl rfl (Nat.le_of_ble_eq_true rfl) dL_law_1035 ⟨Nat.le_trans (by omega) hc, Nat.le_trans (by omega) hs⟩) ?_
  refine jl_eq X 1239 dL_law_1038 (by decide) ?_
  exact jj_widen (by omega) (by omega) (K G σ2 hz hG (by rw [h4, h3]; exact hI) hR2)
set_option maxHeartbeats 4000000 in
/-- lots -/
theorem lc_29 (X : CallFix p m c cL_law 4 s #[Value.ref b] lw_all "LeftBehindLaw") (hX : va_X b L xs s s.heap) (hbl : b < s.heap.size) (hin : ∀ v : Int32, v = 1 ∨ v = 2 ∨ v = 3 ∨ v = 4 → vp_in (i + v) L) (hc : cells + 36 ≤ room_1.cells) (hs : slots + 240 ≤ room_1.slots) (K : Jl_ p l e s m below meth c b i (cells + 36) (slots + 240) 1239) : Jl_ p l e s m below meth c b i cells slots 1043 := by
  intro G σ hz hG hI hR
  have hbA : ¬ AA_ G b := ba_ hz hbl
  obtain ⟨r, σ1, σ2, h1, h2, hR2, h3, h4⟩ := op_lots_z hR (xs (i + 1).toNatClampNeg) (xs (i + 2).toNatClampNeg)
  refine jj_aload_n X dL_law_1043 1 rfl ?_
  refine jl_arg X hX hbl hbA 1 0 3 rfl rfl (by decide) (hin 1 (by decide)) dL_law_1044 dL_law_1045 dL_law_1046 dL_law_1047 dL_law_1048 ?_
  refine jl_arg X hX hbl hbA 2 0 3 rfl rfl (by decide) (hin 2 (by decide)) dL_law_1049 dL_law_1050 dL_law_1051 dL_law_1052 dL_law_1053 ?_
  refine jl_ci (mc := 0) (ms := 0) (jr_V (rest := []) X hG (tg_0 hG) (by decide) ⟨_, rfl⟩ rfl (mt_X0_lots l G σ (xs (i + 1).toNatClampNeg) (xs (i + 2).toNatClampNeg) _ h1) (cwV 2 X.2.2.2.2 (lw_V q885 q886 q887 q61 q888) rfl rfl rfl kd_X0_lots ⟨by decide, by decide⟩) rfl rfl (Nat.le_of_ble_eq_true rfl) dL_law_1054 ⟨Nat.le_trans (by omega) hc, Nat.le_trans (by omega) hs⟩) ?_
  refine jj_aload_n X dL_law_1057 2 rfl ?_
  refine jl_arg X hX hbl hbA 1 0 3 rfl rfl (by decide) (hin 1 (by decide)) dL_law_1058 dL_law_1059 dL_law_1060 dL_law_1061 dL_law_1062 ?_
  refine jl_arg X hX hbl hbA 2 0 3 rfl rfl (by decide) (hin 2 (by decide)) dL_law_1063 dL_law_1064 dL_law_1065 dL_law_1066 dL_law_1067 ?_
  refine jl_ci (mc := 0) (ms := 0) (jr_V (rest := [.int r]) X hG (tg_90 hG) (by decide) ⟨_, rfl⟩ rfl (mt_X6_lots l G σ1 (xs (i + 1).toNatClampNeg) (xs (i + 2).toNatClampNeg) _ h2) (cwV 2 X.2.2.2.2 (lw_V q1246 q1247 q1248 q67 q1249) rfl rfl rfl kd_X6_lots ⟨by decide, by decide⟩) rfl rfl (Nat.le_of_ble_eq_true rfl) dL_law_1068 ⟨Nat.le_trans (by omega) hc, Nat.le_trans (by omega) hs⟩) ?_
  refine jl_eq X 1239 dL_law_1071 (by decide) ?_
  exact jj_widen (by omega) (by omega) (K G σ2 hz hG (by rw [h4, h3]; exact hI) hR2)
end LC
