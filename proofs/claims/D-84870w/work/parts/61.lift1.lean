/-! ===== methods over the typed state (printed by tools/gen_lift.py) ===== -/
set_option maxRecDepth 100000
theorem zac_X10_17 {E : zE} : wAc (zV E) "MeetingHouse$Row" 17 := ⟨(show kt_get kt_mlA "MeetingHouse$Row" 17 = some arraycopyName from by decide +kernel), zac_n, zac_s, zac_i⟩
theorem zac_X12_49 {E : zE} : wAc (zV E) "MeetingHouse$Memory" 49 := ⟨(show kt_get kt_mlA "MeetingHouse$Memory" 49 = some arraycopyName from by decide +kernel), zac_n, zac_s, zac_i⟩
theorem zac_X2_74 {E : zE} : wAc (zV E) "MeetingHouse$Tokens" 74 := ⟨(show kt_get kt_mlA "MeetingHouse$Tokens" 74 = some arraycopyName from by decide +kernel), zac_n, zac_s, zac_i⟩
theorem zac_X20_81 {E : zE} : wAc (zV E) "MeetingHouse$Task" 81 := ⟨(show kt_get kt_mlA "MeetingHouse$Task" 81 = some arraycopyName from by decide +kernel), zac_n, zac_s, zac_i⟩
theorem zac_X4_37 {E : zE} : wAc (zV E) "MeetingHouse$Store" 37 := ⟨(show kt_get kt_mlA "MeetingHouse$Store" 37 = some arraycopyName from by decide +kernel), zac_n, zac_s, zac_i⟩
theorem zc_X2_159 {adE adK adV : Nat → Nat} {zr : Nat → Value} {b L0 : Nat} {xs : Nat → Int32} {lo : Nat} : kx_cL (kw_V adE adK adV zr b L0 xs lo) "MeetingHouse$Tokens" 159 = some 10 := by
  show kt_get kt_cLA "MeetingHouse$Tokens" 159 = _
  decide +kernel
theorem zc_X2_161 {adE adK adV : Nat → Nat} {zr : Nat → Value} {b L0 : Nat} {xs : Nat → Int32} {lo : Nat} : kx_cL (kw_V adE adK adV zr b L0 xs lo) "MeetingHouse$Tokens" 161 = some 48 := by
  show kt_get kt_cLA "MeetingHouse$Tokens" 161 = _
  decide +kernel
theorem zc_X2_165 {adE adK adV : Nat → Nat} {zr : Nat → Value} {b L0 : Nat} {xs : Nat → Int32} {lo : Nat} : kx_cL (kw_V adE adK adV zr b L0 xs lo) "MeetingHouse$Tokens" 165 = some 2147483647 := by
  show kt_get kt_cLA "MeetingHouse$Tokens" 165 = _
  decide +kernel
theorem zs_X2_114 {E : zE} : ∃ r n d, kx_fl (zV E) "MeetingHouse$Tokens" 114 = some (r, n, d) ∧ kx_sv (zV E) r n d = some (va_rf (some (E.1.1 8))) := ⟨_, _, _, (show kt_get kt_flA "MeetingHouse$Tokens" 114 = some ("MeetingHouse$Sort", "END", "LMeetingHouse$Sort;") from by decide +kernel), kx_sv_E.trans (kw_sv_en zen_8)⟩
theorem zs_X2_126 {E : zE} : ∃ r n d, kx_fl (zV E) "MeetingHouse$Tokens" 126 = some (r, n, d) ∧ kx_sv (zV E) r n d = some (va_rf (some (E.1.1 7))) := ⟨_, _, _, (show kt_get kt_flA "MeetingHouse$Tokens" 126 = some ("MeetingHouse$Sort", "LINE", "LMeetingHouse$Sort;") from by decide +kernel), kx_sv_E.trans (kw_sv_en zen_7)⟩
theorem zs_X2_147 {E : zE} : ∃ r n d, kx_fl (zV E) "MeetingHouse$Tokens" 147 = some (r, n, d) ∧ kx_sv (zV E) r n d = some (va_rf (some (E.1.1 6))) := ⟨_, _, _, (show kt_get kt_flA "MeetingHouse$Tokens" 147 = some ("MeetingHouse$Sort", "BAD", "LMeetingHouse$Sort;") from by decide +kernel), kx_sv_E.trans (kw_sv_en zen_6)⟩
theorem zs_X2_153 {E : zE} : ∃ r n d, kx_fl (zV E) "MeetingHouse$Tokens" 153 = some (r, n, d) ∧ kx_sv (zV E) r n d = some (va_rf (some (E.1.1 0))) := ⟨_, _, _, (show kt_get kt_flA "MeetingHouse$Tokens" 153 = some ("MeetingHouse$Sort", "WORD", "LMeetingHouse$Sort;") from by decide +kernel), kx_sv_E.trans (kw_sv_en zen_0)⟩
theorem zs_X2_156 {E : zE} : ∃ r n d, kx_fl (zV E) "MeetingHouse$Tokens" 156 = some (r, n, d) ∧ kx_sv (zV E) r n d = some (va_rf (some (E.1.1 1))) := ⟨_, _, _, (show kt_get kt_flA "MeetingHouse$Tokens" 156 = some ("MeetingHouse$Sort", "NAME", "LMeetingHouse$Sort;") from by decide +kernel), kx_sv_E.trans (kw_sv_en zen_1)⟩
theorem zs_X2_167 {E : zE} : ∃ r n d, kx_fl (zV E) "MeetingHouse$Tokens" 167 = some (r, n, d) ∧ kx_sv (zV E) r n d = some (va_rf (some (E.1.1 2))) := ⟨_, _, _, (show kt_get kt_flA "MeetingHouse$Tokens" 167 = some ("MeetingHouse$Sort", "NUMBER", "LMeetingHouse$Sort;") from by decide +kernel), kx_sv_E.trans (kw_sv_en zen_2)⟩
theorem zs_X2_178 {E : zE} : ∃ r n d, kx_fl (zV E) "MeetingHouse$Tokens" 178 = some (r, n, d) ∧ kx_sv (zV E) r n d = some (va_rf (some (E.1.1 4))) := ⟨_, _, _, (show kt_get kt_flA "MeetingHouse$Tokens" 178 = some ("MeetingHouse$Sort", "CHARACTER", "LMeetingHouse$Sort;") from by decide +kernel), kx_sv_E.trans (kw_sv_en zen_4)⟩
theorem zs_X2_181 {E : zE} : ∃ r n d, kx_fl (zV E) "MeetingHouse$Tokens" 181 = some (r, n, d) ∧ kx_sv (zV E) r n d = some (va_rf (some (E.1.1 3))) := ⟨_, _, _, (show kt_get kt_flA "MeetingHouse$Tokens" 181 = some ("MeetingHouse$Sort", "STRING", "LMeetingHouse$Sort;") from by decide +kernel), kx_sv_E.trans (kw_sv_en zen_3)⟩
theorem zs_X2_190 {E : zE} : ∃ r n d, kx_fl (zV E) "MeetingHouse$Tokens" 190 = some (r, n, d) ∧ kx_sv (zV E) r n d = some (va_rf (some (E.1.1 5))) := ⟨_, _, _, (show kt_get kt_flA "MeetingHouse$Tokens" 190 = some ("MeetingHouse$Sort", "SIGN", "LMeetingHouse$Sort;") from by decide +kernel), kx_sv_E.trans (kw_sv_en zen_5)⟩
theorem zs_X20_53 {E : zE} : ∃ r n d, kx_fl (zV E) "MeetingHouse$Task" 53 = some (r, n, d) ∧ kx_sv (zV E) r n d = some (va_rf (some (E.1.1 61))) := ⟨_, _, _, (show kt_get kt_flA "MeetingHouse$Task" 53 = some ("MeetingHouse$State", "READY", "LMeetingHouse$State;") from by decide +kernel), kx_sv_E.trans (kw_sv_en zen_61)⟩
theorem zho_X1_read_103 {E : zE} (x : String) : kx_hd (zV E) "MeetingHouse" 103 x (kt_M12.2.2.2.2.getD []) = some none := by
  show kx_hd _ _ _ _ [(49, 57, 60, 109)] = _
  unfold kx_hd
  rw [if_neg (by decide)]
  rfl
theorem zho_X1_read_125 {E : zE} (x : String) : kx_hd (zV E) "MeetingHouse" 125 x (kt_M12.2.2.2.2.getD []) = some none := by
  show kx_hd _ _ _ _ [(49, 57, 60, 109)] = _
  unfold kx_hd
  rw [if_neg (by decide)]
  rfl
theorem zho_X1_read_143 {E : zE} (x : String) : kx_hd (zV E) "MeetingHouse" 143 x (kt_M12.2.2.2.2.getD []) = some none := by
  show kx_hd _ _ _ _ [(49, 57, 60, 109)] = _
  unfold kx_hd
  rw [if_neg (by decide)]
  rfl
theorem zho_X1_read_17 {E : zE} (x : String) : kx_hd (zV E) "MeetingHouse" 17 x (kt_M12.2.2.2.2.getD []) = some none := by
  show kx_hd _ _ _ _ [(49, 57, 60, 109)] = _
  unfold kx_hd
  rw [if_neg (by decide)]
  rfl
theorem zho_X1_read_192 {E : zE} (x : String) : kx_hd (zV E) "MeetingHouse" 192 x (kt_M12.2.2.2.2.getD []) = some none := by
  show kx_hd _ _ _ _ [(49, 57, 60, 109)] = _
  unfold kx_hd
  rw [if_neg (by decide)]
  rfl
theorem zho_X1_read_24 {E : zE} (x : String) : kx_hd (zV E) "MeetingHouse" 24 x (kt_M12.2.2.2.2.getD []) = some none := by
  show kx_hd _ _ _ _ [(49, 57, 60, 109)] = _
  unfold kx_hd
  rw [if_neg (by decide)]
  rfl
theorem zho_X1_read_39 {E : zE} (x : String) : kx_hd (zV E) "MeetingHouse" 39 x (kt_M12.2.2.2.2.getD []) = some none := by
  show kx_hd _ _ _ _ [(49, 57, 60, 109)] = _
  unfold kx_hd
  rw [if_neg (by decide)]
  rfl
theorem zho_X1_read_85 {E : zE} (x : String) : kx_hd (zV E) "MeetingHouse" 85 x (kt_M12.2.2.2.2.getD []) = some none := by
  show kx_hd _ _ _ _ [(49, 57, 60, 109)] = _
  unfold kx_hd
  rw [if_neg (by decide)]
  rfl
theorem zhx_X1_read_53 {E : zE} : kx_hd (zV E) "MeetingHouse" 53 "java/lang/ArithmeticException" (kt_M12.2.2.2.2.getD []) = some (some 60) := by
  show kx_hd _ _ _ _ [(49, 57, 60, 109)] = _
  unfold kx_hd
  have e : kx_kl (zV E) "MeetingHouse" 109 = some "java/lang/ArithmeticException" := (show kt_get kt_klA "MeetingHouse" 109 = some "java/lang/ArithmeticException" from by decide +kernel)
  rw [if_pos (by decide), if_neg (by decide), e]
  simp only
  rw [if_pos zcast_X1]
theorem zkl_X4_15 {E : zE} : kx_kl (zV E) "MeetingHouse$Store" 15 = some "MeetingHouse$Symbol" := (show kt_get kt_klA "MeetingHouse$Store" 15 = some "MeetingHouse$Symbol" from by decide +kernel)
theorem zkl_X4_21 {E : zE} : kx_kl (zV E) "MeetingHouse$Store" 21 = some "MeetingHouse$Unit" := (show kt_get kt_klA "MeetingHouse$Store" 21 = some "MeetingHouse$Unit" from by decide +kernel)
theorem zkl_X4_7 {E : zE} : kx_kl (zV E) "MeetingHouse$Store" 7 = some "MeetingHouse$Node" := (show kt_get kt_klA "MeetingHouse$Store" 7 = some "MeetingHouse$Node" from by decide +kernel)
theorem zmn_X4_43 : kx_mn kw_Ns "MeetingHouse$Store" 43 = some (kt_M157.1, "MeetingHouse") := by decide +kernel
theorem wli_X4_43 {E : zE} : wLi (zV E) "MeetingHouse$Store" 43 kt_M157 0 := ⟨.inr ⟨(show kt_get kt_mlA "MeetingHouse$Store" 43 = none from by decide +kernel), _, zmn_X4_43⟩, kx_md_at (M' := kt_M157) (by decide +kernel), by decide +kernel, rfl, rfl, rfl, by decide +kernel, lw_g (lw_at lw_m4 191 rfl) rfl, lw_g (lw_at lw_m1 28 rfl) rfl⟩
theorem zmn_X4_48 : kx_mn kw_Ns "MeetingHouse$Store" 48 = some (kt_M228.1, "MeetingHouse") := by decide +kernel
theorem wli_X4_48 {E : zE} : wLi (zV E) "MeetingHouse$Store" 48 kt_M228 0 := ⟨.inr ⟨(show kt_get kt_mlA "MeetingHouse$Store" 48 = none from by decide +kernel), _, zmn_X4_48⟩, kx_md_at (M' := kt_M228) (by decide +kernel), by decide +kernel, rfl, rfl, rfl, by decide +kernel, lw_g (lw_at lw_m6 147 rfl) rfl, lw_g (lw_at lw_m1 30 rfl) rfl⟩
theorem zmn_X4_52 : kx_mn kw_Ns "MeetingHouse$Store" 52 = some (kt_M291.1, "MeetingHouse") := by decide +kernel
theorem wli_X4_52 {E : zE} : wLi (zV E) "MeetingHouse$Store" 52 kt_M291 0 := ⟨.inr ⟨(show kt_get kt_mlA "MeetingHouse$Store" 52 = none from by decide +kernel), _, zmn_X4_52⟩, kx_md_at (M' := kt_M291) (by decide +kernel), by decide +kernel, rfl, rfl, rfl, by decide +kernel, lw_g (lw_at lw_m9 91 rfl) rfl, lw_g (lw_at lw_m1 33 rfl) rfl⟩
theorem zn_X4_15 {E : zE} : wNw (zV E) wG "MeetingHouse$Store" 15 15 31 := ⟨rfl, by decide, w_ar_no rfl, "MeetingHouse$Symbol", TX17, (show kt_get kt_klA "MeetingHouse$Store" 15 = some "MeetingHouse$Symbol" from by decide +kernel), (show kw_cl.findIdx? (fun q => q.1 == "MeetingHouse$Symbol") = some 15 from by decide +kernel), rfl, lw_g (lw_at lw_m6 145 rfl) rfl, lw_g (lw_at lw_m1 30 rfl) rfl, rfl, by decide +kernel⟩
theorem zn_X4_21 {E : zE} : wNw (zV E) wG "MeetingHouse$Store" 21 16 7 := ⟨rfl, by decide, w_ar_no rfl, "MeetingHouse$Unit", TX19, (show kt_get kt_klA "MeetingHouse$Store" 21 = some "MeetingHouse$Unit" from by decide +kernel), (show kw_cl.findIdx? (fun q => q.1 == "MeetingHouse$Unit") = some 16 from by decide +kernel), rfl, lw_g (lw_at lw_m9 89 rfl) rfl, lw_g (lw_at lw_m1 33 rfl) rfl, rfl, by decide +kernel⟩
theorem zn_X4_7 {E : zE} : wNw (zV E) wG "MeetingHouse$Store" 7 14 22 := ⟨rfl, by decide, w_ar_no rfl, "MeetingHouse$Node", TX16, (show kt_get kt_klA "MeetingHouse$Store" 7 = some "MeetingHouse$Node" from by decide +kernel), (show kw_cl.findIdx? (fun q => q.1 == "MeetingHouse$Node") = some 14 from by decide +kernel), rfl, lw_g (lw_at lw_m4 189 rfl) rfl, lw_g (lw_at lw_m1 28 rfl) rfl, rfl, by decide +kernel⟩
theorem zx_X1_begin_7 {E : zE} : wNx (zV E) wG kt_M2 7 175 19 := ⟨rfl, by decide, w_ar_no rfl, rfl, "java/lang/IllegalStateException", kw_T0, 177, (show kt_get kt_klA "MeetingHouse" 175 = some "java/lang/IllegalStateException" from by decide +kernel), by decide +kernel, kX1_begin_c0.2.2.2.2.1, kX1_begin_c0.2.2.2.2.2.1, (show kw_cl.findIdx? (fun q => q.1 == "java/lang/IllegalStateException") = some 19 from by decide +kernel), rfl, (show Jvm.Cond.instantiable "java/lang/IllegalStateException" 0 ∉ lw_all from by decide +kernel), by decide +kernel, by decide +kernel, lw_g (lw_at lw_m1 35 rfl) rfl, (show ((vx_at0 "MeetingHouse" 177 "java/lang/IllegalStateException" ["java/lang/RuntimeException", "java/lang/Exception"]).all (fun w => decide (w ∈ lw_all) || (decide (w ∈ kw_Ns) && (match w with | .castable .. => true | .declares .. => true | _ => false)))) = true from by decide +kernel), by decide +kernel⟩
theorem zx_X1_run_11 {E : zE} : wNx (zV E) wG kt_M13 11 181 20 := ⟨rfl, by decide, w_ar_no rfl, rfl, "java/lang/IllegalArgumentException", kw_T0, 183, (show kt_get kt_klA "MeetingHouse" 181 = some "java/lang/IllegalArgumentException" from by decide +kernel), by decide +kernel, kX1_run_c0.2.2.2.2.2.2.1, kX1_run_c0.2.2.2.2.2.2.2.1, (show kw_cl.findIdx? (fun q => q.1 == "java/lang/IllegalArgumentException") = some 20 from by decide +kernel), rfl, (show Jvm.Cond.instantiable "java/lang/IllegalArgumentException" 0 ∉ lw_all from by decide +kernel), by decide +kernel, by decide +kernel, lw_g (lw_at lw_m1 37 rfl) rfl, (show ((vx_at0 "MeetingHouse" 183 "java/lang/IllegalArgumentException" ["java/lang/RuntimeException", "java/lang/Exception"]).all (fun w => decide (w ∈ lw_all) || (decide (w ∈ kw_Ns) && (match w with | .castable .. => true | .declares .. => true | _ => false)))) = true from by decide +kernel), by decide +kernel⟩
theorem zx_X1_run_29 {E : zE} : wNx (zV E) wG kt_M13 29 175 19 := ⟨rfl, by decide, w_ar_no rfl, rfl, "java/lang/IllegalStateException", kw_T0, 177, (show kt_get kt_klA "MeetingHouse" 175 = some "java/lang/IllegalStateException" from by decide +kernel), by decide +kernel, kX1_run_c1.2.2.2.2.2.2.1, kX1_run_c1.2.2.2.2.2.2.2.1, (show kw_cl.findIdx? (fun q => q.1 == "java/lang/IllegalStateException") = some 19 from by decide +kernel), rfl, (show Jvm.Cond.instantiable "java/lang/IllegalStateException" 0 ∉ lw_all from by decide +kernel), by decide +kernel, by decide +kernel, lw_g (lw_at lw_m1 35 rfl) rfl, (show ((vx_at0 "MeetingHouse" 177 "java/lang/IllegalStateException" ["java/lang/RuntimeException", "java/lang/Exception"]).all (fun w => decide (w ∈ lw_all) || (decide (w ∈ kw_Ns) && (match w with | .castable .. => true | .declares .. => true | _ => false)))) = true from by decide +kernel), by decide +kernel⟩
theorem zoi_X16_3 {E : zE} : kx_ml (zV E) "MeetingHouse$Node" 3 = some Lib.objectInit ∧ Jvm.Cond.instanceMethod Lib.objectInit ∈ kx_Tb (zV E) ∧ Jvm.Cond.code Lib.objectInit ⟨#[0xb1]⟩ 1 none ∈ kx_Tb (zV E) := ⟨(show kt_get kt_mlA "MeetingHouse$Node" 3 = some Lib.objectInit from by decide +kernel), zoi_1, zoi_2⟩
theorem zoi_X17_3 {E : zE} : kx_ml (zV E) "MeetingHouse$Symbol" 3 = some Lib.objectInit ∧ Jvm.Cond.instanceMethod Lib.objectInit ∈ kx_Tb (zV E) ∧ Jvm.Cond.code Lib.objectInit ⟨#[0xb1]⟩ 1 none ∈ kx_Tb (zV E) := ⟨(show kt_get kt_mlA "MeetingHouse$Symbol" 3 = some Lib.objectInit from by decide +kernel), zoi_1, zoi_2⟩
theorem zoi_X19_3 {E : zE} : kx_ml (zV E) "MeetingHouse$Unit" 3 = some Lib.objectInit ∧ Jvm.Cond.instanceMethod Lib.objectInit ∈ kx_Tb (zV E) ∧ Jvm.Cond.code Lib.objectInit ⟨#[0xb1]⟩ 1 none ∈ kx_Tb (zV E) := ⟨(show kt_get kt_mlA "MeetingHouse$Unit" 3 = some Lib.objectInit from by decide +kernel), zoi_1, zoi_2⟩
theorem zoi_X4_1 {E : zE} : kx_ml (zV E) "MeetingHouse$Store" 1 = some Lib.objectInit ∧ Jvm.Cond.instanceMethod Lib.objectInit ∈ kx_Tb (zV E) ∧ Jvm.Cond.code Lib.objectInit ⟨#[0xb1]⟩ 1 none ∈ kx_Tb (zV E) := ⟨(show kt_get kt_mlA "MeetingHouse$Store" 1 = some Lib.objectInit from by decide +kernel), zoi_1, zoi_2⟩
theorem zk_X2_80 {E : zE} : kx_ci (zV E) "MeetingHouse$Tokens" 80 = none ∧ kx_rv (zV E) "MeetingHouse$Tokens" 80 = some (E.1.2.1 0) := ⟨(show kt_get kt_ciA "MeetingHouse$Tokens" 80 = none from by decide +kernel), kx_rv_E.trans (kw_rv_at (by decide +kernel))⟩
theorem wq_X1_135 {adE adK adV : Nat → Nat} {zr : Nat → Value} {b L0 : Nat} {xs : Nat → Int32} {lo : Nat} : wP (kw_V adE adK adV zr b L0 xs lo) wG "MeetingHouse" 135 0 11 0 .int := wPb_ok (by decide +kernel) wf_X1_135 (r := "MeetingHouse") (n := "told") (d := "I") (by decide +kernel) (by decide +kernel)
theorem wq_X1_82 {adE adK adV : Nat → Nat} {zr : Nat → Value} {b L0 : Nat} {xs : Nat → Int32} {lo : Nat} : wP (kw_V adE adK adV zr b L0 xs lo) wG "MeetingHouse" 82 0 10 0 .int := wPb_ok (by decide +kernel) wf_X1_82 (r := "MeetingHouse") (n := "taped") (d := "I") (by decide +kernel) (by decide +kernel)
theorem wq_X1_90 {adE adK adV : Nat → Nat} {zr : Nat → Value} {b L0 : Nat} {xs : Nat → Int32} {lo : Nat} : wP (kw_V adE adK adV zr b L0 xs lo) wG "MeetingHouse" 90 0 12 0 .boolean := wPb_ok (by decide +kernel) wf_X1_90 (r := "MeetingHouse") (n := "hasProgram") (d := "Z") (by decide +kernel) (by decide +kernel)
theorem wq_X1_94 {adE adK adV : Nat → Nat} {zr : Nat → Value} {b L0 : Nat} {xs : Nat → Int32} {lo : Nat} : wP (kw_V adE adK adV zr b L0 xs lo) wG "MeetingHouse" 94 10 14 0 .boolean := wPb_ok (by decide +kernel) wf_X1_94 (r := "MeetingHouse$Machine") (n := "begun") (d := "Z") (by decide +kernel) (by decide +kernel)
theorem wq_X10_7 {adE adK adV : Nat → Nat} {zr : Nat → Value} {b L0 : Nat} {xs : Nat → Int32} {lo : Nat} : wP (kw_V adE adK adV zr b L0 xs lo) wG "MeetingHouse$Row" 7 9 0 3 (.array .int) := wPb_ok (by decide +kernel) wf_X10_7 (r := "MeetingHouse$Row") (n := "cells") (d := "[I") (by decide +kernel) (by decide +kernel)
theorem wq_X12_9 {adE adK adV : Nat → Nat} {zr : Nat → Value} {b L0 : Nat} {xs : Nat → Int32} {lo : Nat} : wP (kw_V adE adK adV zr b L0 xs lo) wG "MeetingHouse$Memory" 9 11 0 3 (.array .int) := wPb_ok (by decide +kernel) wf_X12_9 (r := "MeetingHouse$Memory") (n := "cells") (d := "[I") (by decide +kernel) (by decide +kernel)
theorem wq_X2_101 {adE adK adV : Nat → Nat} {zr : Nat → Value} {b L0 : Nat} {xs : Nat → Int32} {lo : Nat} : wP (kw_V adE adK adV zr b L0 xs lo) wG "MeetingHouse$Tokens" 101 1 8 0 .int := wPb_ok (by decide +kernel) wf_X2_101 (r := "MeetingHouse$Tokens") (n := "lines") (d := "I") (by decide +kernel) (by decide +kernel)
theorem wq_X2_104 {adE adK adV : Nat → Nat} {zr : Nat → Value} {b L0 : Nat} {xs : Nat → Int32} {lo : Nat} : wP (kw_V adE adK adV zr b L0 xs lo) wG "MeetingHouse$Tokens" 104 1 9 0 .int := wPb_ok (by decide +kernel) wf_X2_104 (r := "MeetingHouse$Tokens") (n := "real") (d := "I") (by decide +kernel) (by decide +kernel)
theorem wq_X2_107 {adE adK adV : Nat → Nat} {zr : Nat → Value} {b L0 : Nat} {xs : Nat → Int32} {lo : Nat} : wP (kw_V adE adK adV zr b L0 xs lo) wG "MeetingHouse$Tokens" 107 1 11 0 .int := wPb_ok (by decide +kernel) wf_X2_107 (r := "MeetingHouse$Tokens") (n := "signMany") (d := "I") (by decide +kernel) (by decide +kernel)
theorem wq_X2_64 {adE adK adV : Nat → Nat} {zr : Nat → Value} {b L0 : Nat} {xs : Nat → Int32} {lo : Nat} : wP (kw_V adE adK adV zr b L0 xs lo) wG "MeetingHouse$Tokens" 64 1 1 0 .int := wPb_ok (by decide +kernel) wf_X2_64 (r := "MeetingHouse$Tokens") (n := "size") (d := "I") (by decide +kernel) (by decide +kernel)
theorem wq_X2_68 {adE adK adV : Nat → Nat} {zr : Nat → Value} {b L0 : Nat} {xs : Nat → Int32} {lo : Nat} : wP (kw_V adE adK adV zr b L0 xs lo) wG "MeetingHouse$Tokens" 68 1 17 0 .int := wPb_ok (by decide +kernel) wf_X2_68 (r := "MeetingHouse$Tokens") (n := "nameMany") (d := "I") (by decide +kernel) (by decide +kernel)
theorem wq_X2_71 {adE adK adV : Nat → Nat} {zr : Nat → Value} {b L0 : Nat} {xs : Nat → Int32} {lo : Nat} : wP (kw_V adE adK adV zr b L0 xs lo) wG "MeetingHouse$Tokens" 71 1 18 0 .int := wPb_ok (by decide +kernel) wf_X2_71 (r := "MeetingHouse$Tokens") (n := "letterMany") (d := "I") (by decide +kernel) (by decide +kernel)
theorem wq_X2_95 {adE adK adV : Nat → Nat} {zr : Nat → Value} {b L0 : Nat} {xs : Nat → Int32} {lo : Nat} : wP (kw_V adE adK adV zr b L0 xs lo) wG "MeetingHouse$Tokens" 95 1 7 0 .int := wPb_ok (by decide +kernel) wf_X2_95 (r := "MeetingHouse$Tokens") (n := "many") (d := "I") (by decide +kernel) (by decide +kernel)
theorem wq_X20_15 {adE adK adV : Nat → Nat} {zr : Nat → Value} {b L0 : Nat} {xs : Nat → Int32} {lo : Nat} : wP (kw_V adE adK adV zr b L0 xs lo) wG "MeetingHouse$Task" 15 17 13 3 (.array .int) := wPb_ok (by decide +kernel) wf_X20_15 (r := "MeetingHouse$Task") (n := "guards") (d := "[I") (by decide +kernel) (by decide +kernel)
theorem wq_X20_18 {adE adK adV : Nat → Nat} {zr : Nat → Value} {b L0 : Nat} {xs : Nat → Int32} {lo : Nat} : wP (kw_V adE adK adV zr b L0 xs lo) wG "MeetingHouse$Task" 18 17 14 3 (.array .int) := wPb_ok (by decide +kernel) wf_X20_18 (r := "MeetingHouse$Task") (n := "temporary") (d := "[I") (by decide +kernel) (by decide +kernel)
theorem wq_X20_21 {adE adK adV : Nat → Nat} {zr : Nat → Value} {b L0 : Nat} {xs : Nat → Int32} {lo : Nat} : wP (kw_V adE adK adV zr b L0 xs lo) wG "MeetingHouse$Task" 21 17 0 0 .int := wPb_ok (by decide +kernel) wf_X20_21 (r := "MeetingHouse$Task") (n := "number") (d := "I") (by decide +kernel) (by decide +kernel)
theorem wq_X20_25 {adE adK adV : Nat → Nat} {zr : Nat → Value} {b L0 : Nat} {xs : Nat → Int32} {lo : Nat} : wP (kw_V adE adK adV zr b L0 xs lo) wG "MeetingHouse$Task" 25 17 10 2 (.object "MeetingHouse$Task") := wPb_ok (by decide +kernel) wf_X20_25 (r := "MeetingHouse$Task") (n := "parent") (d := "LMeetingHouse$Task;") (by decide +kernel) (by decide +kernel)
theorem wq_X20_29 {adE adK adV : Nat → Nat} {zr : Nat → Value} {b L0 : Nat} {xs : Nat → Int32} {lo : Nat} : wP (kw_V adE adK adV zr b L0 xs lo) wG "MeetingHouse$Task" 29 17 1 0 .int := wPb_ok (by decide +kernel) wf_X20_29 (r := "MeetingHouse$Task") (n := "pc") (d := "I") (by decide +kernel) (by decide +kernel)
theorem wq_X20_32 {adE adK adV : Nat → Nat} {zr : Nat → Value} {b L0 : Nat} {xs : Nat → Int32} {lo : Nat} : wP (kw_V adE adK adV zr b L0 xs lo) wG "MeetingHouse$Task" 32 17 2 0 .int := wPb_ok (by decide +kernel) wf_X20_32 (r := "MeetingHouse$Task") (n := "frame") (d := "I") (by decide +kernel) (by decide +kernel)
theorem wq_X20_35 {adE adK adV : Nat → Nat} {zr : Nat → Value} {b L0 : Nat} {xs : Nat → Int32} {lo : Nat} : wP (kw_V adE adK adV zr b L0 xs lo) wG "MeetingHouse$Task" 35 17 3 0 .int := wPb_ok (by decide +kernel) wf_X20_35 (r := "MeetingHouse$Task") (n := "line") (d := "I") (by decide +kernel) (by decide +kernel)
theorem wq_X20_38 {adE adK adV : Nat → Nat} {zr : Nat → Value} {b L0 : Nat} {xs : Nat → Int32} {lo : Nat} : wP (kw_V adE adK adV zr b L0 xs lo) wG "MeetingHouse$Task" 38 17 4 0 .int := wPb_ok (by decide +kernel) wf_X20_38 (r := "MeetingHouse$Task") (n := "fault") (d := "I") (by decide +kernel) (by decide +kernel)
theorem wq_X20_41 {adE adK adV : Nat → Nat} {zr : Nat → Value} {b L0 : Nat} {xs : Nat → Int32} {lo : Nat} : wP (kw_V adE adK adV zr b L0 xs lo) wG "MeetingHouse$Task" 41 17 5 0 .int := wPb_ok (by decide +kernel) wf_X20_41 (r := "MeetingHouse$Task") (n := "pending") (d := "I") (by decide +kernel) (by decide +kernel)
theorem wq_X20_44 {adE adK adV : Nat → Nat} {zr : Nat → Value} {b L0 : Nat} {xs : Nat → Int32} {lo : Nat} : wP (kw_V adE adK adV zr b L0 xs lo) wG "MeetingHouse$Task" 44 17 6 0 .int := wPb_ok (by decide +kernel) wf_X20_44 (r := "MeetingHouse$Task") (n := "channel") (d := "I") (by decide +kernel) (by decide +kernel)
theorem wq_X20_47 {adE adK adV : Nat → Nat} {zr : Nat → Value} {b L0 : Nat} {xs : Nat → Int32} {lo : Nat} : wP (kw_V adE adK adV zr b L0 xs lo) wG "MeetingHouse$Task" 47 17 7 0 .int := wPb_ok (by decide +kernel) wf_X20_47 (r := "MeetingHouse$Task") (n := "time") (d := "I") (by decide +kernel) (by decide +kernel)
theorem wq_X20_50 {adE adK adV : Nat → Nat} {zr : Nat → Value} {b L0 : Nat} {xs : Nat → Int32} {lo : Nat} : wP (kw_V adE adK adV zr b L0 xs lo) wG "MeetingHouse$Task" 50 17 8 0 .int := wPb_ok (by decide +kernel) wf_X20_50 (r := "MeetingHouse$Task") (n := "calls") (d := "I") (by decide +kernel) (by decide +kernel)
theorem wq_X20_59 {adE adK adV : Nat → Nat} {zr : Nat → Value} {b L0 : Nat} {xs : Nat → Int32} {lo : Nat} : wP (kw_V adE adK adV zr b L0 xs lo) wG "MeetingHouse$Task" 59 17 9 2 (.object "MeetingHouse$State") := wPb_ok (by decide +kernel) wf_X20_59 (r := "MeetingHouse$Task") (n := "state") (d := "LMeetingHouse$State;") (by decide +kernel) (by decide +kernel)
theorem wq_X20_62 {adE adK adV : Nat → Nat} {zr : Nat → Value} {b L0 : Nat} {xs : Nat → Int32} {lo : Nat} : wP (kw_V adE adK adV zr b L0 xs lo) wG "MeetingHouse$Task" 62 17 11 2 (.object "MeetingHouse$Task") := wPb_ok (by decide +kernel) wf_X20_62 (r := "MeetingHouse$Task") (n := "next") (d := "LMeetingHouse$Task;") (by decide +kernel) (by decide +kernel)
theorem wq_X20_65 {adE adK adV : Nat → Nat} {zr : Nat → Value} {b L0 : Nat} {xs : Nat → Int32} {lo : Nat} : wP (kw_V adE adK adV zr b L0 xs lo) wG "MeetingHouse$Task" 65 17 15 0 .int := wPb_ok (by decide +kernel) wf_X20_65 (r := "MeetingHouse$Task") (n := "partMany") (d := "I") (by decide +kernel) (by decide +kernel)
theorem wq_X20_68 {adE adK adV : Nat → Nat} {zr : Nat → Value} {b L0 : Nat} {xs : Nat → Int32} {lo : Nat} : wP (kw_V adE adK adV zr b L0 xs lo) wG "MeetingHouse$Task" 68 17 16 0 .int := wPb_ok (by decide +kernel) wf_X20_68 (r := "MeetingHouse$Task") (n := "guardMany") (d := "I") (by decide +kernel) (by decide +kernel)
theorem wq_X20_71 {adE adK adV : Nat → Nat} {zr : Nat → Value} {b L0 : Nat} {xs : Nat → Int32} {lo : Nat} : wP (kw_V adE adK adV zr b L0 xs lo) wG "MeetingHouse$Task" 71 17 17 0 .int := wPb_ok (by decide +kernel) wf_X20_71 (r := "MeetingHouse$Task") (n := "temporaryMany") (d := "I") (by decide +kernel) (by decide +kernel)
theorem wq_X20_74 {adE adK adV : Nat → Nat} {zr : Nat → Value} {b L0 : Nat} {xs : Nat → Int32} {lo : Nat} : wP (kw_V adE adK adV zr b L0 xs lo) wG "MeetingHouse$Task" 74 17 18 0 .boolean := wPb_ok (by decide +kernel) wf_X20_74 (r := "MeetingHouse$Task") (n := "byTag") (d := "Z") (by decide +kernel) (by decide +kernel)
theorem wq_X20_78 {adE adK adV : Nat → Nat} {zr : Nat → Value} {b L0 : Nat} {xs : Nat → Int32} {lo : Nat} : wP (kw_V adE adK adV zr b L0 xs lo) wG "MeetingHouse$Task" 78 17 19 0 .boolean := wPb_ok (by decide +kernel) wf_X20_78 (r := "MeetingHouse$Task") (n := "resumes") (d := "Z") (by decide +kernel) (by decide +kernel)
theorem wq_X4_17 {adE adK adV : Nat → Nat} {zr : Nat → Value} {b L0 : Nat} {xs : Nat → Int32} {lo : Nat} : wP (kw_V adE adK adV zr b L0 xs lo) wG "MeetingHouse$Store" 17 3 1 3 (.array (.object "MeetingHouse$Symbol")) := wPb_ok (by decide +kernel) wf_X4_17 (r := "MeetingHouse$Store") (n := "symbols") (d := "[LMeetingHouse$Symbol;") (by decide +kernel) (by decide +kernel)
theorem wq_X4_23 {adE adK adV : Nat → Nat} {zr : Nat → Value} {b L0 : Nat} {xs : Nat → Int32} {lo : Nat} : wP (kw_V adE adK adV zr b L0 xs lo) wG "MeetingHouse$Store" 23 3 2 3 (.array (.object "MeetingHouse$Unit")) := wPb_ok (by decide +kernel) wf_X4_23 (r := "MeetingHouse$Store") (n := "units") (d := "[LMeetingHouse$Unit;") (by decide +kernel) (by decide +kernel)
theorem wq_X4_27 {adE adK adV : Nat → Nat} {zr : Nat → Value} {b L0 : Nat} {xs : Nat → Int32} {lo : Nat} : wP (kw_V adE adK adV zr b L0 xs lo) wG "MeetingHouse$Store" 27 3 3 0 .int := wPb_ok (by decide +kernel) wf_X4_27 (r := "MeetingHouse$Store") (n := "nodeMany") (d := "I") (by decide +kernel) (by decide +kernel)
theorem wq_X4_31 {adE adK adV : Nat → Nat} {zr : Nat → Value} {b L0 : Nat} {xs : Nat → Int32} {lo : Nat} : wP (kw_V adE adK adV zr b L0 xs lo) wG "MeetingHouse$Store" 31 3 4 0 .int := wPb_ok (by decide +kernel) wf_X4_31 (r := "MeetingHouse$Store") (n := "symbolMany") (d := "I") (by decide +kernel) (by decide +kernel)
theorem wq_X4_34 {adE adK adV : Nat → Nat} {zr : Nat → Value} {b L0 : Nat} {xs : Nat → Int32} {lo : Nat} : wP (kw_V adE adK adV zr b L0 xs lo) wG "MeetingHouse$Store" 34 3 5 0 .int := wPb_ok (by decide +kernel) wf_X4_34 (r := "MeetingHouse$Store") (n := "unitMany") (d := "I") (by decide +kernel) (by decide +kernel)
theorem wq_X4_9 {adE adK adV : Nat → Nat} {zr : Nat → Value} {b L0 : Nat} {xs : Nat → Int32} {lo : Nat} : wP (kw_V adE adK adV zr b L0 xs lo) wG "MeetingHouse$Store" 9 3 0 3 (.array (.object "MeetingHouse$Node")) := wPb_ok (by decide +kernel) wf_X4_9 (r := "MeetingHouse$Store") (n := "nodes") (d := "[LMeetingHouse$Node;") (by decide +kernel) (by decide +kernel)
def zb_X1_feed_p0 (E : zE) (L : Nat) (Q : kx_Rs → wS → Prop) (x1 : Int32) (x2 : Int32) (x3 : Int32) (x4 : Int32) (x5 : Int32) (w : wS) : Prop := (if ((w_i w 0 0 10) + 20) ≤ 6000 then zw E (L - 22) kt_M7 [.ref (w_adr E.2.1 0 0), .int x1] w (wk0 (fun w1 => wle w w1 → zw E (L - 22) kt_M7 [.ref (w_adr E.2.1 0 0), .int x2] w1 (wk0 (fun w3 => wle w1 w3 → zw E (L - 22) kt_M7 [.ref (w_adr E.2.1 0 0), .int x3] w3 (wk0 (fun w5 => wle w3 w5 → zw E (L - 22) kt_M7 [.ref (w_adr E.2.1 0 0), .int x4] w5 (wk0 (fun w7 => wle w5 w7 → zw E (L - 22) kt_M7 [.ref (w_adr E.2.1 0 0), .int x5] w7 (wk0 (fun w9 => wle w7 w9 → Q (.inl (some (.int (w_i w9 0 0 10)))) w9) (fun e w => Q (.inr e) w))) (fun e w => Q (.inr e) w))) (fun e w => Q (.inr e) w))) (fun e w => Q (.inr e) w))) (fun e w => Q (.inr e) w)) else Q (.inl (some (.int (-1)))) w)
theorem zt_X1_feed_p0 {E : zE} {L : Nat} {Q : kx_Rs → wS → Prop} {x1 : Int32} {x2 : Int32} {x3 : Int32} {x4 : Int32} {x5 : Int32} {w : wS} (hL : 22 ≤ L) (h : zb_X1_feed_p0 E L Q x1 x2 x3 x4 x5 w) : kzE E L kt_M6 0 [(0, .ref (w_adr E.2.1 0 0)), (1, .int x1), (2, .int x2), (3, .int x3), (4, .int x4), (5, .int x5)] [] w Q := by
  unfold zb_X1_feed_p0 at h
  refine kz_aload_n (M := kt_M6) kX1_feed_c0.1 rfl ?_
  refine kz_gfi (M := kt_M6) (c := 0) (o := 0) kX1_feed_c0.2.1 wf_X1_82 (.inl rfl) ?_
  refine kz_bi (M := kt_M6) 20 kX1_feed_c0.2.2.1 rfl ?_
  refine kz_iadd (M := kt_M6) kX1_feed_c0.2.2.2.1 ?_
  refine kz_si (M := kt_M6) 6000 kX1_feed_c0.2.2.2.2.1 rfl ?_
  refine kz_icmp_le (M := kt_M6) kX1_feed_c0.2.2.2.2.2.1 (t := 15) rfl h (fun h => ?_) (fun h => ?_)
  · skip
    refine kz_aload_n (M := kt_M6) kX1_feed_c1.1 rfl ?_
    refine kz_iload_n (M := kt_M6) kX1_feed_c1.2.1 rfl ?_
    refine kz_cv0 (M := kt_M6) (c := 0) (o := 0) (As := [.int x1]) (rest := []) kX1_feed_c1.2.2.1 wl_X1_86 wMv_7 rfl (.inl rfl) rfl (Nat.le_trans (Nat.le_of_ble_eq_true rfl) hL) (Nat.le_of_ble_eq_true rfl) (Nat.le_of_ble_eq_true rfl) h (fun w1 hle h => ?_) (fun _ _ _ h => kzx_no rfl h)
    have h := h hle
    refine kz_aload_n (M := kt_M6) kX1_feed_c1.2.2.2.1 rfl ?_
    refine kz_iload_n (M := kt_M6) kX1_feed_c1.2.2.2.2.1 rfl ?_
    refine kz_cv0 (M := kt_M6) (c := 0) (o := 0) (As := [.int x2]) (rest := []) kX1_feed_c1.2.2.2.2.2.1 wl_X1_86 wMv_7 rfl (.inl rfl) rfl (Nat.le_trans (Nat.le_of_ble_eq_true rfl) hL) (Nat.le_of_ble_eq_true rfl) (Nat.le_of_ble_eq_true rfl) h (fun w3 hle h => ?_) (fun _ _ _ h => kzx_no rfl h)
    have h := h hle
    refine kz_aload_n (M := kt_M6) kX1_feed_c1.2.2.2.2.2.2.1 rfl ?_
    refine kz_iload_n (M := kt_M6) kX1_feed_c1.2.2.2.2.2.2.2.1 rfl ?_
    refine kz_cv0 (M := kt_M6) (c := 0) (o := 0) (As := [.int x3]) (rest := []) kX1_feed_c2.1 wl_X1_86 wMv_7 rfl (.inl rfl) rfl (Nat.le_trans (Nat.le_of_ble_eq_true rfl) hL) (Nat.le_of_ble_eq_true rfl) (Nat.le_of_ble_eq_true rfl) h (fun w5 hle h => ?_) (fun _ _ _ h => kzx_no rfl h)
    have h := h hle
    refine kz_aload_n (M := kt_M6) kX1_feed_c2.2.1 rfl ?_
    refine kz_iload (M := kt_M6) kX1_feed_c2.2.2.1 rfl ?_
    refine kz_cv0 (M := kt_M6) (c := 0) (o := 0) (As := [.int x4]) (rest := []) kX1_feed_c2.2.2.2.1 wl_X1_86 wMv_7 rfl (.inl rfl) rfl (Nat.le_trans (Nat.le_of_ble_eq_true rfl) hL) (Nat.le_of_ble_eq_true rfl) (Nat.le_of_ble_eq_true rfl) h (fun w7 hle h => ?_) (fun _ _ _ h => kzx_no rfl h)
    have h := h hle
    refine kz_aload_n (M := kt_M6) kX1_feed_c2.2.2.2.2.1 rfl ?_
    refine kz_iload (M := kt_M6) kX1_feed_c2.2.2.2.2.2.1 rfl ?_
    refine kz_cv0 (M := kt_M6) (c := 0) (o := 0) (As := [.int x5]) (rest := []) kX1_feed_c2.2.2.2.2.2.2.1 wl_X1_86 wMv_7 rfl (.inl rfl) rfl (Nat.le_trans (Nat.le_of_ble_eq_true rfl) hL) (Nat.le_of_ble_eq_true rfl) (Nat.le_of_ble_eq_true rfl) h (fun w9 hle h => ?_) (fun _ _ _ h => kzx_no rfl h)
    have h := h hle
    refine kz_aload_n (M := kt_M6) kX1_feed_c2.2.2.2.2.2.2.2.1 rfl ?_
    refine kz_gfi (M := kt_M6) (c := 0) (o := 0) kX1_feed_c3.1 wf_X1_82 (.inl rfl) ?_
    exact kz_iret (M := kt_M6) kX1_feed_c3.2.1 rfl rfl h
  · skip
    refine kz_ic (M := kt_M6) (-1) kX1_feed_c0.2.2.2.2.2.2.1 rfl ?_
    exact kz_iret (M := kt_M6) kX1_feed_c0.2.2.2.2.2.2.2.1 rfl rfl h
def zL_X1_four_p3 (E : zE) (L : Nat) (Q : kx_Rs → wS → Prop) (x1 : Int32) (x2 : Int32) (w : wS) : Prop := kzE E L kt_M7 3 [(0, .ref (w_adr E.2.1 0 0)), (1, .int x1), (2, .int x2)] [] w Q
def zb_X1_four_p3 (E : zE) (L : Nat) (Q : kx_Rs → wS → Prop) (x1 : Int32) (x2 : Int32) (w : wS) : Prop := (if x2 < 0 then Q (.inl none) w else (kx_inb (w_i w 0 0 10) (w_n w 0 0 9) = true ∧ zL_X1_four_p3 E L Q x1 (x2 + (-8)) (ws_a (ws_i w 0 0 10 ((w_i w 0 0 10) + 1)) 0 0 9 (w_i w 0 0 10).toNatClampNeg (vp_nar .byte (((x1 >>> (x2 &&& 31))).toInt8.toInt32)))))
theorem zt_X1_four_p3 {E : zE} {L : Nat} {Q : kx_Rs → wS → Prop} {x1 : Int32} {x2 : Int32} {w : wS} (hL : 19 ≤ L) (h : zb_X1_four_p3 E L Q x1 x2 w) : kzE E L kt_M7 3 [(0, .ref (w_adr E.2.1 0 0)), (1, .int x1), (2, .int x2)] [] w Q := by
  unfold zb_X1_four_p3 at h
  refine kz_iload_n (M := kt_M7) kX1_four_c0.2.2.1 rfl ?_
  refine kz_if_lt (M := kt_M7) kX1_four_c0.2.2.2.1 (t := 33) rfl h (fun h => ?_) (fun h => ?_)
  · skip
    exact kz_ret (M := kt_M7) kX1_four_c2.2.2.2.2.1 rfl h
  · skip
    refine kz_aload_n (M := kt_M7) kX1_four_c0.2.2.2.2.1 rfl ?_
    refine kz_gfc (M := kt_M7) (x := 1009) (c := 0) (o := 0) kX1_four_c0.2.2.2.2.2.1 wf_X1_78 (.inl rfl) ?_
    refine kz_aload_n (M := kt_M7) kX1_four_c0.2.2.2.2.2.2.1 rfl ?_
    refine kz_dup (M := kt_M7) kX1_four_c0.2.2.2.2.2.2.2.1 rfl ?_
    refine kz_gfi (M := kt_M7) (c := 0) (o := 0) kX1_four_c1.1 wf_X1_82 (.inl rfl) ?_
    refine kz_dup_x1 (M := kt_M7) kX1_four_c1.2.1 ⟨rfl, rfl⟩ ?_
    refine kz_ic (M := kt_M7) 1 kX1_four_c1.2.2.1 rfl ?_
    refine kz_iadd (M := kt_M7) kX1_four_c1.2.2.2.1 ?_
    refine kz_pfi (M := kt_M7) (c := 0) (o := 0) kX1_four_c1.2.2.2.2.1 wq_X1_82 (.inl rfl) ?_
    refine kz_iload_n (M := kt_M7) kX1_four_c1.2.2.2.2.2.1 rfl ?_
    refine kz_iload_n (M := kt_M7) kX1_four_c1.2.2.2.2.2.2.1 rfl ?_
    refine kz_ishr (M := kt_M7) kX1_four_c1.2.2.2.2.2.2.2.1 ?_
    refine kz_i2b (M := kt_M7) kX1_four_c2.1 ?_
    refine kz_bastR (M := kt_M7) (n := w_n w 0 0 9) (c := 0) (o := 0) (k := 9) (a := (E.2.1 1009)) kX1_four_c2.2.1 ow_0_0_9 oa_0_0_9 ot_1 rd_n_i h (fun h => ?_)
    refine kz_inc (M := kt_M7) [(0, .ref (w_adr E.2.1 0 0)), (1, .int x1)] kX1_four_c2.2.2.1 rfl (Nat.le_of_ble_eq_true rfl) ⟨⟨rfl, rfl, .inl rfl⟩, ⟨⟨rfl, rfl, .inr rfl⟩, trivial⟩⟩ rfl ?_
    refine kz_goto (M := kt_M7) kX1_four_c2.2.2.2.1 (t := 3) rfl ?_
    exact kz_weak [(0, .ref (w_adr E.2.1 0 0)), (1, .int x1), (2, .int (x2 + (-8)))] ⟨rfl, ⟨rfl, ⟨rfl, trivial⟩⟩⟩ rfl h
def zb_X1_four_p0 (E : zE) (L : Nat) (Q : kx_Rs → wS → Prop) (x1 : Int32) (w : wS) : Prop := zL_X1_four_p3 E L Q x1 24 w
theorem zt_X1_four_p0 {E : zE} {L : Nat} {Q : kx_Rs → wS → Prop} {x1 : Int32} {w : wS} (hL : 19 ≤ L) (h : zb_X1_four_p0 E L Q x1 w) : kzE E L kt_M7 0 [(0, .ref (w_adr E.2.1 0 0)), (1, .int x1)] [] w Q := by
  unfold zb_X1_four_p0 at h
  refine kz_bi (M := kt_M7) 24 kX1_four_c0.1 rfl ?_
  refine kz_sti_n (M := kt_M7) [(0, .ref (w_adr E.2.1 0 0)), (1, .int x1)] kX1_four_c0.2.1 (Nat.le_of_ble_eq_true rfl) ⟨⟨rfl, rfl, .inl rfl⟩, ⟨⟨rfl, rfl, .inr rfl⟩, trivial⟩⟩ rfl ?_
  exact kz_weak [(0, .ref (w_adr E.2.1 0 0)), (1, .int x1), (2, .int 24)] ⟨rfl, ⟨rfl, ⟨rfl, trivial⟩⟩⟩ rfl h
def zb_X1_back_p12 (E : zE) (L : Nat) (Q : kx_Rs → wS → Prop) (w : wS) : Prop := Q (.inl (some (.int (-1)))) w
theorem zt_X1_back_p12 {E : zE} {L : Nat} {Q : kx_Rs → wS → Prop} {w : wS} (hL : 19 ≤ L) (h : zb_X1_back_p12 E L Q  w) : kzE E L kt_M1 12 [(0, .ref (w_adr E.2.1 0 0))] [] w Q := by
  unfold zb_X1_back_p12 at h
  refine kz_ic (M := kt_M1) (-1) kX1_back_c0.2.2.2.2.2.2.1 rfl ?_
  exact kz_iret (M := kt_M1) kX1_back_c0.2.2.2.2.2.2.2.1 rfl rfl h
def zb_X1_back_p0 (E : zE) (L : Nat) (Q : kx_Rs → wS → Prop) (x1 : Int32) (w : wS) : Prop := (if x1 < 0 then zb_X1_back_p12 E L Q w else (if x1 ≤ w_i w 0 0 10 then Q (.inl (some (.int ((w_i w 0 0 10) - x1)))) (ws_i w 0 0 10 ((w_i w 0 0 10) - x1)) else zb_X1_back_p12 E L Q w))
theorem zt_X1_back_p0 {E : zE} {L : Nat} {Q : kx_Rs → wS → Prop} {x1 : Int32} {w : wS} (hL : 19 ≤ L) (h : zb_X1_back_p0 E L Q x1 w) : kzE E L kt_M1 0 [(0, .ref (w_adr E.2.1 0 0)), (1, .int x1)] [] w Q := by
  unfold zb_X1_back_p0 at h
  refine kz_iload_n (M := kt_M1) kX1_back_c0.1 rfl ?_
  refine kz_if_lt (M := kt_M1) kX1_back_c0.2.1 (t := 12) rfl h (fun h => ?_) (fun h => ?_)
  · skip
    exact kz_weak [(0, .ref (w_adr E.2.1 0 0))] ⟨rfl, trivial⟩ rfl (zt_X1_back_p12 hL  h)
  · skip
    refine kz_iload_n (M := kt_M1) kX1_back_c0.2.2.1 rfl ?_
    refine kz_aload_n (M := kt_M1) kX1_back_c0.2.2.2.1 rfl ?_
    refine kz_gfi (M := kt_M1) (c := 0) (o := 0) kX1_back_c0.2.2.2.2.1 wf_X1_82 (.inl rfl) ?_
    refine kz_icmp_le (M := kt_M1) kX1_back_c0.2.2.2.2.2.1 (t := 14) rfl h (fun h => ?_) (fun h => ?_)
    · skip
      refine kz_aload_n (M := kt_M1) kX1_back_c1.1 rfl ?_
      refine kz_dup (M := kt_M1) kX1_back_c1.2.1 rfl ?_
      refine kz_gfi (M := kt_M1) (c := 0) (o := 0) kX1_back_c1.2.2.1 wf_X1_82 (.inl rfl) ?_
      refine kz_iload_n (M := kt_M1) kX1_back_c1.2.2.2.1 rfl ?_
      refine kz_isub (M := kt_M1) kX1_back_c1.2.2.2.2.1 ?_
      refine kz_pfi (M := kt_M1) (c := 0) (o := 0) kX1_back_c1.2.2.2.2.2.1 wq_X1_82 (.inl rfl) ?_
      refine kz_aload_n (M := kt_M1) kX1_back_c1.2.2.2.2.2.2.1 rfl ?_
      refine kz_gfiR (M := kt_M1) (c := 0) (o := 0) ((w_i w 0 0 10) - x1) kX1_back_c1.2.2.2.2.2.2.2.1 wf_X1_82 (.inl rfl) rd_i_e ?_
      exact kz_iret (M := kt_M1) kX1_back_c2.1 rfl rfl h
    · skip
      exact kz_weak [(0, .ref (w_adr E.2.1 0 0))] ⟨rfl, trivial⟩ rfl (zt_X1_back_p12 hL  h)
def zb_X1_read_p146 (E : zE) (L : Nat) (Q : kx_Rs → wS → Prop) (x1 : Option Nat) (w : wS) : Prop := (if w_i w 2 0 1 = 0 then zw E (L - 26) kt_M22 [.ref (w_adr E.2.1 8 0), va_rf (x1), .ref (w_adr E.2.1 3 0), .ref (w_adr E.2.1 1 0), .ref (w_adr E.2.1 5 0)] w (wk0 (fun w1 => wle w w1 → Q (.inl (some (.int 0))) (ws_i (ws_i w1 0 0 11 (w_i w1 4 0 5)) 0 0 12 1)) (fun e w => Q (.inr e) w)) else Q (.inl (some (.int ((w_i w 2 0 1) + (16 * (w_i w 2 0 2)))))) w)
theorem zt_X1_read_p146 {E : zE} {L : Nat} {Q : kx_Rs → wS → Prop} {x1 : Option Nat} {w : wS} (hL : 26 ≤ L) (h : zb_X1_read_p146 E L Q x1 w) : kzE E L kt_M12 146 [(0, .ref (w_adr E.2.1 0 0)), (1, va_rf (x1))] [] w Q := by
  unfold zb_X1_read_p146 at h
  refine kz_aload_n (M := kt_M12) kX1_read_c8.2.2.2.2.2.2.2.1 rfl ?_
  refine kz_gfc (M := kt_M12) (x := 8) (c := 0) (o := 0) kX1_read_c9.1 wf_X1_19 (.inl rfl) ?_
  refine kz_gfi (M := kt_M12) (c := 2) (o := 0) kX1_read_c9.2.1 wf_X1_111 (.inl rfl) ?_
  refine kz_if_eq (M := kt_M12) kX1_read_c9.2.2.1 (t := 175) rfl h (fun h => ?_) (fun h => ?_)
  · skip
    refine kz_aload_n (M := kt_M12) kX1_read_c10.2.2.2.2.2.1 rfl ?_
    refine kz_gfc (M := kt_M12) (x := 32) (c := 0) (o := 0) kX1_read_c10.2.2.2.2.2.2.1 wf_X1_65 (.inl rfl) ?_
    refine kz_aload_nv (M := kt_M12) (x := x1) kX1_read_c10.2.2.2.2.2.2.2.1 rfl ?_
    refine kz_aload_n (M := kt_M12) kX1_read_c11.1 rfl ?_
    refine kz_gfc (M := kt_M12) (x := 12) (c := 0) (o := 0) kX1_read_c11.2.1 wf_X1_26 (.inl rfl) ?_
    refine kz_aload_n (M := kt_M12) kX1_read_c11.2.2.1 rfl ?_
    refine kz_gfc (M := kt_M12) (x := 4) (c := 0) (o := 0) kX1_read_c11.2.2.2.1 wf_X1_10 (.inl rfl) ?_
    refine kz_aload_n (M := kt_M12) kX1_read_c11.2.2.2.2.1 rfl ?_
    refine kz_gfc (M := kt_M12) (x := 20) (c := 0) (o := 0) kX1_read_c11.2.2.2.2.2.1 wf_X1_42 (.inl rfl) ?_
    refine kz_cv0 (M := kt_M12) (c := 8) (o := 0) (As := [va_rf (x1), .ref (w_adr E.2.1 3 0), .ref (w_adr E.2.1 1 0), .ref (w_adr E.2.1 5 0)]) (rest := []) kX1_read_c11.2.2.2.2.2.2.1 wl_X1_128 wMv_22 rfl (.inl rfl) rfl (Nat.le_trans (Nat.le_of_ble_eq_true rfl) hL) (by simp [lg_sl, w_cat, z_ci, z_cr, z_cl, z_cn, kt_M22]) (Nat.le_of_ble_eq_true rfl) h (fun w1 hle h => ?_) (fun _ _ _ h => kzx_out (zho_X1_read_192 _) h)
    have h := h hle
    refine kz_aload_n (M := kt_M12) kX1_read_c11.2.2.2.2.2.2.2.1 rfl ?_
    refine kz_aload_n (M := kt_M12) kX1_read_c12.1 rfl ?_
    refine kz_gfc (M := kt_M12) (x := 16) (c := 0) (o := 0) kX1_read_c12.2.1 wf_X1_35 (.inl rfl) ?_
    refine kz_gfi (M := kt_M12) (c := 4) (o := 0) kX1_read_c12.2.2.1 wf_X1_132 (.inl rfl) ?_
    refine kz_pfi (M := kt_M12) (c := 0) (o := 0) kX1_read_c12.2.2.2.1 wq_X1_135 (.inl rfl) ?_
    refine kz_aload_n (M := kt_M12) kX1_read_c12.2.2.2.2.1 rfl ?_
    refine kz_ic (M := kt_M12) 1 kX1_read_c12.2.2.2.2.2.1 rfl ?_
    refine kz_pfz (M := kt_M12) (c := 0) (o := 0) kX1_read_c12.2.2.2.2.2.2.1 wq_X1_90 (.inl rfl) (by decide) ?_
    refine kz_ic (M := kt_M12) 0 kX1_read_c12.2.2.2.2.2.2.2.1 rfl ?_
    exact kz_iret (M := kt_M12) kX1_read_c13.1 rfl rfl h
  · skip
    refine kz_aload_n (M := kt_M12) kX1_read_c9.2.2.2.1 rfl ?_
    refine kz_gfc (M := kt_M12) (x := 8) (c := 0) (o := 0) kX1_read_c9.2.2.2.2.1 wf_X1_19 (.inl rfl) ?_
    refine kz_gfi (M := kt_M12) (c := 2) (o := 0) kX1_read_c9.2.2.2.2.2.1 wf_X1_111 (.inl rfl) ?_
    refine kz_bi (M := kt_M12) 16 kX1_read_c9.2.2.2.2.2.2.1 rfl ?_
    refine kz_aload_n (M := kt_M12) kX1_read_c9.2.2.2.2.2.2.2.1 rfl ?_
    refine kz_gfc (M := kt_M12) (x := 8) (c := 0) (o := 0) kX1_read_c10.1 wf_X1_19 (.inl rfl) ?_
    refine kz_gfi (M := kt_M12) (c := 2) (o := 0) kX1_read_c10.2.1 wf_X1_114 (.inl rfl) ?_
    refine kz_imul (M := kt_M12) kX1_read_c10.2.2.1 ?_
    refine kz_iadd (M := kt_M12) kX1_read_c10.2.2.2.1 ?_
    exact kz_iret (M := kt_M12) kX1_read_c10.2.2.2.2.1 rfl rfl h
def zb_X1_read_p128 (E : zE) (L : Nat) (Q : kx_Rs → wS → Prop) (x1 : Option Nat) (w : wS) : Prop := (if ¬ w_i w 2 0 1 = 0 then zb_X1_read_p146 E L Q x1 w else zw E (L - 21) kt_M327 [.ref (w_adr E.2.1 7 0), va_rf (x1)] w (wk0 (fun w1 => wle w w1 → zb_X1_read_p146 E L Q x1 w1) (fun e w => Q (.inr e) w)))
theorem zt_X1_read_p128 {E : zE} {L : Nat} {Q : kx_Rs → wS → Prop} {x1 : Option Nat} {w : wS} (hL : 26 ≤ L) (h : zb_X1_read_p128 E L Q x1 w) : kzE E L kt_M12 128 [(0, .ref (w_adr E.2.1 0 0)), (1, va_rf (x1))] [] w Q := by
  unfold zb_X1_read_p128 at h
  refine kz_aload_n (M := kt_M12) kX1_read_c7.2.2.2.2.2.2.2.1 rfl ?_
  refine kz_gfc (M := kt_M12) (x := 8) (c := 0) (o := 0) kX1_read_c8.1 wf_X1_19 (.inl rfl) ?_
  refine kz_gfi (M := kt_M12) (c := 2) (o := 0) kX1_read_c8.2.1 wf_X1_111 (.inl rfl) ?_
  refine kz_if_ne (M := kt_M12) kX1_read_c8.2.2.1 (t := 146) rfl h (fun h => ?_) (fun h => ?_)
  · skip
    exact kz_weak [(0, .ref (w_adr E.2.1 0 0)), (1, va_rf (x1))] ⟨rfl, ⟨rfl, trivial⟩⟩ rfl (zt_X1_read_p146 hL  h)
  · skip
    refine kz_aload_n (M := kt_M12) kX1_read_c8.2.2.2.1 rfl ?_
    refine kz_gfc (M := kt_M12) (x := 28) (c := 0) (o := 0) kX1_read_c8.2.2.2.2.1 wf_X1_58 (.inl rfl) ?_
    refine kz_aload_nv (M := kt_M12) (x := x1) kX1_read_c8.2.2.2.2.2.1 rfl ?_
    refine kz_cv0 (M := kt_M12) (c := 7) (o := 0) (As := [va_rf (x1)]) (rest := []) kX1_read_c8.2.2.2.2.2.2.1 wl_X1_125 wMv_327 rfl (.inl rfl) rfl (Nat.le_trans (Nat.le_of_ble_eq_true rfl) hL) (by simp [lg_sl, w_cat, z_ci, z_cr, z_cl, z_cn, kt_M327]) (Nat.le_of_ble_eq_true rfl) h (fun w1 hle h => ?_) (fun _ _ _ h => kzx_out (zho_X1_read_143 _) h)
    have h := h hle
    exact kz_weak [(0, .ref (w_adr E.2.1 0 0)), (1, va_rf (x1))] ⟨rfl, ⟨rfl, trivial⟩⟩ rfl (zt_X1_read_p146 hL  h)
def zb_X1_read_p106 (E : zE) (L : Nat) (Q : kx_Rs → wS → Prop) (x1 : Option Nat) (w : wS) : Prop := (if ¬ w_i w 2 0 1 = 0 then zb_X1_read_p128 E L Q x1 w else zw E (L - 22) kt_M317 [.ref (w_adr E.2.1 7 0), va_rf (x1), .ref (w_adr E.2.1 5 0)] w (wk0 (fun w1 => wle w w1 → zb_X1_read_p128 E L Q x1 w1) (fun e w => Q (.inr e) w)))
theorem zt_X1_read_p106 {E : zE} {L : Nat} {Q : kx_Rs → wS → Prop} {x1 : Option Nat} {w : wS} (hL : 26 ≤ L) (h : zb_X1_read_p106 E L Q x1 w) : kzE E L kt_M12 106 [(0, .ref (w_adr E.2.1 0 0)), (1, va_rf (x1))] [] w Q := by
  unfold zb_X1_read_p106 at h
  refine kz_aload_n (M := kt_M12) kX1_read_c6.2.2.2.2.2.1 rfl ?_
  refine kz_gfc (M := kt_M12) (x := 8) (c := 0) (o := 0) kX1_read_c6.2.2.2.2.2.2.1 wf_X1_19 (.inl rfl) ?_
  refine kz_gfi (M := kt_M12) (c := 2) (o := 0) kX1_read_c6.2.2.2.2.2.2.2.1 wf_X1_111 (.inl rfl) ?_
  refine kz_if_ne (M := kt_M12) kX1_read_c7.1 (t := 128) rfl h (fun h => ?_) (fun h => ?_)
  · skip
    exact kz_weak [(0, .ref (w_adr E.2.1 0 0)), (1, va_rf (x1))] ⟨rfl, ⟨rfl, trivial⟩⟩ rfl (zt_X1_read_p128 hL  h)
  · skip
    refine kz_aload_n (M := kt_M12) kX1_read_c7.2.1 rfl ?_
    refine kz_gfc (M := kt_M12) (x := 28) (c := 0) (o := 0) kX1_read_c7.2.2.1 wf_X1_58 (.inl rfl) ?_
    refine kz_aload_nv (M := kt_M12) (x := x1) kX1_read_c7.2.2.2.1 rfl ?_
    refine kz_aload_n (M := kt_M12) kX1_read_c7.2.2.2.2.1 rfl ?_
    refine kz_gfc (M := kt_M12) (x := 20) (c := 0) (o := 0) kX1_read_c7.2.2.2.2.2.1 wf_X1_42 (.inl rfl) ?_
    refine kz_cv0 (M := kt_M12) (c := 7) (o := 0) (As := [va_rf (x1), .ref (w_adr E.2.1 5 0)]) (rest := []) kX1_read_c7.2.2.2.2.2.2.1 wl_X1_122 wMv_317 rfl (.inl rfl) rfl (Nat.le_trans (Nat.le_of_ble_eq_true rfl) hL) (by simp [lg_sl, w_cat, z_ci, z_cr, z_cl, z_cn, kt_M317]) (Nat.le_of_ble_eq_true rfl) h (fun w1 hle h => ?_) (fun _ _ _ h => kzx_out (zho_X1_read_125 _) h)
    have h := h hle
    exact kz_weak [(0, .ref (w_adr E.2.1 0 0)), (1, va_rf (x1))] ⟨rfl, ⟨rfl, trivial⟩⟩ rfl (zt_X1_read_p128 hL  h)
def zb_X1_read_p0 (E : zE) (L : Nat) (Q : kx_Rs → wS → Prop) (w : wS) : Prop := zw E (L - 20) kt_M54 [.ref (w_adr E.2.1 2 0)] (ws_i (ws_i w 0 0 12 0) 10 0 14 0) (wk0 (fun w1 => wle (ws_i (ws_i w 0 0 12 0) 10 0 14 0) w1 → zw E (L - 20) kt_M224 [.ref (w_adr E.2.1 3 0)] w1 (wk0 (fun w3 => wle w1 w3 → zw E (L - 25) kt_M238 [.ref (w_adr E.2.1 1 0), .ref (E.2.1 1009), .int (w_i w3 0 0 10)] w3 (wk0 (fun w5 => wle w3 w5 → zw E (L - 21) kt_M204 [.ref (w_adr E.2.1 4 0)] (ws_i w5 0 0 10 0) (wkr (fun v8 w7 => wle (ws_i w5 0 0 10 0) w7 → zw E (L - 21) kt_M146 [.ref (w_adr E.2.1 5 0), va_rf (v8)] w7 (wk0 (fun w9 => wle w7 w9 → (if ¬ w_i w9 2 0 1 = 0 then zb_X1_read_p106 E L Q v8 w9 else zw E (L - 21) kt_M272 [.ref (w_adr E.2.1 6 0), va_rf (v8)] w9 (wk0 (fun w11 => wle w9 w11 → zb_X1_read_p106 E L Q v8 w11) (fun e w => Q (.inr e) w)))) (fun e w => Q (.inr e) w))) (fun e w9 => e = "java/lang/ArithmeticException" ∧ Q (.inl (some (.int ((w_i w9 2 0 1) + (16 * (w_i w9 2 0 2)))))) w9))) (fun e w => Q (.inr e) w))) (fun e w => Q (.inr e) w))) (fun e w => Q (.inr e) w))
theorem zt_X1_read_p0 {E : zE} {L : Nat} {Q : kx_Rs → wS → Prop} {w : wS} (hL : 26 ≤ L) (h : zb_X1_read_p0 E L Q  w) : kzE E L kt_M12 0 [(0, .ref (w_adr E.2.1 0 0))] [] w Q := by
  unfold zb_X1_read_p0 at h
  refine kz_aload_n (M := kt_M12) kX1_read_c0.1 rfl ?_
  refine kz_ic (M := kt_M12) 0 kX1_read_c0.2.1 rfl ?_
  refine kz_pfz (M := kt_M12) (c := 0) (o := 0) kX1_read_c0.2.2.1 wq_X1_90 (.inl rfl) (by decide) ?_
  refine kz_aload_n (M := kt_M12) kX1_read_c0.2.2.2.1 rfl ?_
  refine kz_gfc (M := kt_M12) (x := 40) (c := 0) (o := 0) kX1_read_c0.2.2.2.2.1 wf_X1_74 (.inl rfl) ?_
  refine kz_ic (M := kt_M12) 0 kX1_read_c0.2.2.2.2.2.1 rfl ?_
  refine kz_pfz (M := kt_M12) (c := 10) (o := 0) kX1_read_c0.2.2.2.2.2.2.1 wq_X1_94 (.inl rfl) (by decide) ?_
  refine kz_aload_n (M := kt_M12) kX1_read_c0.2.2.2.2.2.2.2.1 rfl ?_
  refine kz_gfc (M := kt_M12) (x := 8) (c := 0) (o := 0) kX1_read_c1.1 wf_X1_19 (.inl rfl) ?_
  refine kz_cv0 (M := kt_M12) (c := 2) (o := 0) (As := []) (rest := []) kX1_read_c1.2.1 wl_X1_97 wMv_54 rfl (.inl rfl) rfl (Nat.le_trans (Nat.le_of_ble_eq_true rfl) hL) (Nat.le_of_ble_eq_true rfl) (Nat.le_of_ble_eq_true rfl) h (fun w1 hle h => ?_) (fun _ _ _ h => kzx_out (zho_X1_read_17 _) h)
  have h := h hle
  refine kz_aload_n (M := kt_M12) kX1_read_c1.2.2.1 rfl ?_
  refine kz_gfc (M := kt_M12) (x := 12) (c := 0) (o := 0) kX1_read_c1.2.2.2.1 wf_X1_26 (.inl rfl) ?_
  refine kz_cv0 (M := kt_M12) (c := 3) (o := 0) (As := []) (rest := []) kX1_read_c1.2.2.2.2.1 wl_X1_100 wMv_224 rfl (.inl rfl) rfl (Nat.le_trans (Nat.le_of_ble_eq_true rfl) hL) (Nat.le_of_ble_eq_true rfl) (Nat.le_of_ble_eq_true rfl) h (fun w3 hle h => ?_) (fun _ _ _ h => kzx_out (zho_X1_read_24 _) h)
  have h := h hle
  refine kz_aload_n (M := kt_M12) kX1_read_c1.2.2.2.2.2.1 rfl ?_
  refine kz_gfc (M := kt_M12) (x := 4) (c := 0) (o := 0) kX1_read_c1.2.2.2.2.2.2.1 wf_X1_10 (.inl rfl) ?_
  refine kz_aload_n (M := kt_M12) kX1_read_c1.2.2.2.2.2.2.2.1 rfl ?_
  refine kz_gfc (M := kt_M12) (x := 1009) (c := 0) (o := 0) kX1_read_c2.1 wf_X1_78 (.inl rfl) ?_
  refine kz_aload_n (M := kt_M12) kX1_read_c2.2.1 rfl ?_
  refine kz_gfi (M := kt_M12) (c := 0) (o := 0) kX1_read_c2.2.2.1 wf_X1_82 (.inl rfl) ?_
  refine kz_cv0 (M := kt_M12) (c := 1) (o := 0) (As := [.ref (E.2.1 1009), .int (w_i w3 0 0 10)]) (rest := []) kX1_read_c2.2.2.2.1 wl_X1_101 wMv_238 rfl (.inl rfl) rfl (Nat.le_trans (Nat.le_of_ble_eq_true rfl) hL) (Nat.le_of_ble_eq_true rfl) (Nat.le_of_ble_eq_true rfl) h (fun w5 hle h => ?_) (fun _ _ _ h => kzx_out (zho_X1_read_39 _) h)
  have h := h hle
  refine kz_aload_n (M := kt_M12) kX1_read_c2.2.2.2.2.1 rfl ?_
  refine kz_ic (M := kt_M12) 0 kX1_read_c2.2.2.2.2.2.1 rfl ?_
  refine kz_pfi (M := kt_M12) (c := 0) (o := 0) kX1_read_c2.2.2.2.2.2.2.1 wq_X1_82 (.inl rfl) ?_
  refine kz_null (M := kt_M12) kX1_read_c2.2.2.2.2.2.2.2.1 ?_
  refine kz_stv_n (M := kt_M12) (x := none) [(0, .ref (w_adr E.2.1 0 0))] kX1_read_c3.1 (Nat.le_of_ble_eq_true rfl) ⟨⟨rfl, rfl, .inr rfl⟩, trivial⟩ rfl ?_
  refine kz_aload_n (M := kt_M12) kX1_read_c3.2.1 rfl ?_
  refine kz_gfc (M := kt_M12) (x := 16) (c := 0) (o := 0) kX1_read_c3.2.2.1 wf_X1_35 (.inl rfl) ?_
  refine kz_cvr (M := kt_M12) (c := 4) (o := 0) (As := []) (rest := []) kX1_read_c3.2.2.2.1 wl_X1_105 wMv_204 rfl (.inl rfl) rfl (Nat.le_trans (Nat.le_of_ble_eq_true rfl) hL) (Nat.le_of_ble_eq_true rfl) (Nat.le_of_ble_eq_true rfl) h (fun v8 w7 hle h => ?_) (fun e w9 hle h => ?_)
  rotate_left
  · skip
    obtain ⟨he, h⟩ := h
    cases he
    refine kzx_n (M := kt_M12) [(0, .ref (w_adr E.2.1 0 0))] (zhx_X1_read_53) kX1_read_c3.2.2.2.2.2.2.1 (Nat.le_of_ble_eq_true rfl) ⟨⟨rfl, rfl, .inl rfl⟩, trivial⟩ rfl ?_
    refine kz_aload_n (M := kt_M12) kX1_read_c3.2.2.2.2.2.2.2.1 rfl ?_
    refine kz_gfc (M := kt_M12) (x := 8) (c := 0) (o := 0) kX1_read_c4.1 wf_X1_19 (.inl rfl) ?_
    refine kz_gfi (M := kt_M12) (c := 2) (o := 0) kX1_read_c4.2.1 wf_X1_111 (.inl rfl) ?_
    refine kz_bi (M := kt_M12) 16 kX1_read_c4.2.2.1 rfl ?_
    refine kz_aload_n (M := kt_M12) kX1_read_c4.2.2.2.1 rfl ?_
    refine kz_gfc (M := kt_M12) (x := 8) (c := 0) (o := 0) kX1_read_c4.2.2.2.2.1 wf_X1_19 (.inl rfl) ?_
    refine kz_gfi (M := kt_M12) (c := 2) (o := 0) kX1_read_c4.2.2.2.2.2.1 wf_X1_114 (.inl rfl) ?_
    refine kz_imul (M := kt_M12) kX1_read_c4.2.2.2.2.2.2.1 ?_
    refine kz_iadd (M := kt_M12) kX1_read_c4.2.2.2.2.2.2.2.1 ?_
    exact kz_iret (M := kt_M12) kX1_read_c5.1 rfl rfl h
  have h := h hle
  refine kz_stv_n (M := kt_M12) (x := v8) [(0, .ref (w_adr E.2.1 0 0))] kX1_read_c3.2.2.2.2.1 (Nat.le_of_ble_eq_true rfl) ⟨⟨rfl, rfl, .inr rfl⟩, trivial⟩ rfl ?_
  refine kz_goto (M := kt_M12) kX1_read_c3.2.2.2.2.2.1 (t := 80) rfl ?_
  refine kz_aload_n (M := kt_M12) kX1_read_c5.2.1 rfl ?_
  refine kz_gfc (M := kt_M12) (x := 20) (c := 0) (o := 0) kX1_read_c5.2.2.1 wf_X1_42 (.inl rfl) ?_
  refine kz_aload_nv (M := kt_M12) (x := v8) kX1_read_c5.2.2.2.1 rfl ?_
  refine kz_cv0 (M := kt_M12) (c := 5) (o := 0) (As := [va_rf (v8)]) (rest := []) kX1_read_c5.2.2.2.2.1 wl_X1_117 wMv_146 rfl (.inl rfl) rfl (Nat.le_trans (Nat.le_of_ble_eq_true rfl) hL) (by simp [lg_sl, w_cat, z_ci, z_cr, z_cl, z_cn, kt_M146]) (Nat.le_of_ble_eq_true rfl) h (fun w9 hle h => ?_) (fun _ _ _ h => kzx_out (zho_X1_read_85 _) h)
  have h := h hle
  refine kz_aload_n (M := kt_M12) kX1_read_c5.2.2.2.2.2.1 rfl ?_
  refine kz_gfc (M := kt_M12) (x := 8) (c := 0) (o := 0) kX1_read_c5.2.2.2.2.2.2.1 wf_X1_19 (.inl rfl) ?_
  refine kz_gfi (M := kt_M12) (c := 2) (o := 0) kX1_read_c5.2.2.2.2.2.2.2.1 wf_X1_111 (.inl rfl) ?_
  refine kz_if_ne (M := kt_M12) kX1_read_c6.1 (t := 106) rfl h (fun h => ?_) (fun h => ?_)
  · skip
    exact kz_weak [(0, .ref (w_adr E.2.1 0 0)), (1, va_rf (v8))] ⟨rfl, ⟨rfl, trivial⟩⟩ rfl (zt_X1_read_p106 hL  h)
  · skip
    refine kz_aload_n (M := kt_M12) kX1_read_c6.2.1 rfl ?_
    refine kz_gfc (M := kt_M12) (x := 24) (c := 0) (o := 0) kX1_read_c6.2.2.1 wf_X1_51 (.inl rfl) ?_
    refine kz_aload_nv (M := kt_M12) (x := v8) kX1_read_c6.2.2.2.1 rfl ?_
    refine kz_cv0 (M := kt_M12) (c := 6) (o := 0) (As := [va_rf (v8)]) (rest := []) kX1_read_c6.2.2.2.2.1 wl_X1_121 wMv_272 rfl (.inl rfl) rfl (Nat.le_trans (Nat.le_of_ble_eq_true rfl) hL) (by simp [lg_sl, w_cat, z_ci, z_cr, z_cl, z_cn, kt_M272]) (Nat.le_of_ble_eq_true rfl) h (fun w11 hle h => ?_) (fun _ _ _ h => kzx_out (zho_X1_read_103 _) h)
    have h := h hle
    exact kz_weak [(0, .ref (w_adr E.2.1 0 0)), (1, va_rf (v8))] ⟨rfl, ⟨rfl, trivial⟩⟩ rfl (zt_X1_read_p106 hL  h)
def zb_X1_count_p290 (E : zE) (L : Nat) (Q : kx_Rs → wS → Prop) (y0 : Int32) (w : wS) : Prop := Q (.inl (some (.int y0))) w
theorem zt_X1_count_p290 {E : zE} {L : Nat} {Q : kx_Rs → wS → Prop} {y0 : Int32} {w : wS} (hL : 22 ≤ L) (h : zb_X1_count_p290 E L Q y0 w) : kzE E L kt_M5 290 [(0, .ref (w_adr E.2.1 0 0))] [.int y0] w Q := by
  unfold zb_X1_count_p290 at h
  exact kz_iret (M := kt_M5) kX1_count_c13.2.2.2.2.2.2.1 rfl rfl h
def zb_X1_count_p274 (E : zE) (L : Nat) (Q : kx_Rs → wS → Prop) (y0 : Int32) (w : wS) : Prop := Q (.inl (some (.int y0))) w
theorem zt_X1_count_p274 {E : zE} {L : Nat} {Q : kx_Rs → wS → Prop} {y0 : Int32} {w : wS} (hL : 22 ≤ L) (h : zb_X1_count_p274 E L Q y0 w) : kzE E L kt_M5 274 [(0, .ref (w_adr E.2.1 0 0))] [.int y0] w Q := by
  unfold zb_X1_count_p274 at h
  exact kz_iret (M := kt_M5) kX1_count_c12.2.2.2.2.2.2.1 rfl rfl h
def zb_X1_count_p258 (E : zE) (L : Nat) (Q : kx_Rs → wS → Prop) (y0 : Int32) (w : wS) : Prop := Q (.inl (some (.int y0))) w
theorem zt_X1_count_p258 {E : zE} {L : Nat} {Q : kx_Rs → wS → Prop} {y0 : Int32} {w : wS} (hL : 22 ≤ L) (h : zb_X1_count_p258 E L Q y0 w) : kzE E L kt_M5 258 [(0, .ref (w_adr E.2.1 0 0))] [.int y0] w Q := by
  unfold zb_X1_count_p258 at h
  exact kz_iret (M := kt_M5) kX1_count_c11.2.2.2.2.2.2.1 rfl rfl h
def zb_X1_count_p242 (E : zE) (L : Nat) (Q : kx_Rs → wS → Prop) (y0 : Int32) (w : wS) : Prop := Q (.inl (some (.int y0))) w
theorem zt_X1_count_p242 {E : zE} {L : Nat} {Q : kx_Rs → wS → Prop} {y0 : Int32} {w : wS} (hL : 22 ≤ L) (h : zb_X1_count_p242 E L Q y0 w) : kzE E L kt_M5 242 [(0, .ref (w_adr E.2.1 0 0))] [.int y0] w Q := by
  unfold zb_X1_count_p242 at h
  exact kz_iret (M := kt_M5) kX1_count_c10.2.2.2.2.2.2.1 rfl rfl h
def zb_X1_count_p226 (E : zE) (L : Nat) (Q : kx_Rs → wS → Prop) (y0 : Int32) (w : wS) : Prop := Q (.inl (some (.int y0))) w
theorem zt_X1_count_p226 {E : zE} {L : Nat} {Q : kx_Rs → wS → Prop} {y0 : Int32} {w : wS} (hL : 22 ≤ L) (h : zb_X1_count_p226 E L Q y0 w) : kzE E L kt_M5 226 [(0, .ref (w_adr E.2.1 0 0))] [.int y0] w Q := by
  unfold zb_X1_count_p226 at h
  exact kz_iret (M := kt_M5) kX1_count_c9.2.2.2.2.2.2.1 rfl rfl h
def zb_X1_count_p210 (E : zE) (L : Nat) (Q : kx_Rs → wS → Prop) (y0 : Int32) (w : wS) : Prop := Q (.inl (some (.int y0))) w
theorem zt_X1_count_p210 {E : zE} {L : Nat} {Q : kx_Rs → wS → Prop} {y0 : Int32} {w : wS} (hL : 22 ≤ L) (h : zb_X1_count_p210 E L Q y0 w) : kzE E L kt_M5 210 [(0, .ref (w_adr E.2.1 0 0))] [.int y0] w Q := by
  unfold zb_X1_count_p210 at h
  exact kz_iret (M := kt_M5) kX1_count_c8.2.2.2.2.2.2.1 rfl rfl h
def zb_X1_count_p194 (E : zE) (L : Nat) (Q : kx_Rs → wS → Prop) (y0 : Int32) (w : wS) : Prop := Q (.inl (some (.int y0))) w
theorem zt_X1_count_p194 {E : zE} {L : Nat} {Q : kx_Rs → wS → Prop} {y0 : Int32} {w : wS} (hL : 22 ≤ L) (h : zb_X1_count_p194 E L Q y0 w) : kzE E L kt_M5 194 [(0, .ref (w_adr E.2.1 0 0))] [.int y0] w Q := by
  unfold zb_X1_count_p194 at h
  exact kz_iret (M := kt_M5) kX1_count_c7.2.2.2.2.2.2.1 rfl rfl h
def zb_X1_count_p178 (E : zE) (L : Nat) (Q : kx_Rs → wS → Prop) (y0 : Int32) (w : wS) : Prop := Q (.inl (some (.int y0))) w
theorem zt_X1_count_p178 {E : zE} {L : Nat} {Q : kx_Rs → wS → Prop} {y0 : Int32} {w : wS} (hL : 22 ≤ L) (h : zb_X1_count_p178 E L Q y0 w) : kzE E L kt_M5 178 [(0, .ref (w_adr E.2.1 0 0))] [.int y0] w Q := by
  unfold zb_X1_count_p178 at h
  exact kz_iret (M := kt_M5) kX1_count_c6.2.2.2.2.2.2.1 rfl rfl h
def zb_X1_count_p162 (E : zE) (L : Nat) (Q : kx_Rs → wS → Prop) (y0 : Int32) (w : wS) : Prop := Q (.inl (some (.int y0))) w
theorem zt_X1_count_p162 {E : zE} {L : Nat} {Q : kx_Rs → wS → Prop} {y0 : Int32} {w : wS} (hL : 22 ≤ L) (h : zb_X1_count_p162 E L Q y0 w) : kzE E L kt_M5 162 [(0, .ref (w_adr E.2.1 0 0))] [.int y0] w Q := by
  unfold zb_X1_count_p162 at h
  exact kz_iret (M := kt_M5) kX1_count_c5.2.2.2.2.2.2.1 rfl rfl h
def zb_X1_count_p133 (E : zE) (L : Nat) (Q : kx_Rs → wS → Prop) (y0 : Int32) (w : wS) : Prop := Q (.inl (some (.int y0))) w
theorem zt_X1_count_p133 {E : zE} {L : Nat} {Q : kx_Rs → wS → Prop} {y0 : Int32} {w : wS} (hL : 22 ≤ L) (h : zb_X1_count_p133 E L Q y0 w) : kzE E L kt_M5 133 [(0, .ref (w_adr E.2.1 0 0))] [.int y0] w Q := by
  unfold zb_X1_count_p133 at h
  exact kz_iret (M := kt_M5) kX1_count_c3.2.2.2.2.2.2.2.1 rfl rfl h
def zb_X1_count_p117 (E : zE) (L : Nat) (Q : kx_Rs → wS → Prop) (y0 : Int32) (w : wS) : Prop := Q (.inl (some (.int y0))) w
theorem zt_X1_count_p117 {E : zE} {L : Nat} {Q : kx_Rs → wS → Prop} {y0 : Int32} {w : wS} (hL : 22 ≤ L) (h : zb_X1_count_p117 E L Q y0 w) : kzE E L kt_M5 117 [(0, .ref (w_adr E.2.1 0 0))] [.int y0] w Q := by
  unfold zb_X1_count_p117 at h
  exact kz_iret (M := kt_M5) kX1_count_c2.2.2.2.2.2.2.2.1 rfl rfl h
def zb_X1_count_p98 (E : zE) (L : Nat) (Q : kx_Rs → wS → Prop) (y0 : Int32) (w : wS) : Prop := Q (.inl (some (.int y0))) w
theorem zt_X1_count_p98 {E : zE} {L : Nat} {Q : kx_Rs → wS → Prop} {y0 : Int32} {w : wS} (hL : 22 ≤ L) (h : zb_X1_count_p98 E L Q y0 w) : kzE E L kt_M5 98 [(0, .ref (w_adr E.2.1 0 0))] [.int y0] w Q := by
  unfold zb_X1_count_p98 at h
  exact kz_iret (M := kt_M5) kX1_count_c1.2.2.2.2.2.2.1 rfl rfl h
def zb_X1_count_p0 (E : zE) (L : Nat) (Q : kx_Rs → wS → Prop) (x1 : Int32) (w : wS) : Prop := (if x1 = 0 then (if w_i w 0 0 12 = 0 then zb_X1_count_p98 E L Q 0 w else zb_X1_count_p98 E L Q (w_i w 1 0 9) w) else (if x1 = 1 then (if w_i w 0 0 12 = 0 then zb_X1_count_p117 E L Q 0 w else zb_X1_count_p117 E L Q (w_i w 1 0 8) w) else (if x1 = 2 then (if w_i w 0 0 12 = 0 then zb_X1_count_p133 E L Q 0 w else zb_X1_count_p133 E L Q (w_i w 0 0 11) w) else (if x1 = 3 then Q (.inl (some (.int (w_i w 0 0 10)))) w else (if x1 = 4 then zw E (L - 20) kt_M75 [.ref (w_adr E.2.1 10 0)] w (wk1 (fun v2 w1 => wle w w1 → Q (.inl (some (.int v2))) w1) (fun e w => Q (.inr e) w)) else (if x1 = 5 then (if w_i w 10 0 14 = 0 then zb_X1_count_p162 E L Q 0 w else zb_X1_count_p162 E L Q (w_i w 10 0 7) w) else (if x1 = 6 then (if w_i w 10 0 14 = 0 then zb_X1_count_p178 E L Q 0 w else zw E (L - 20) kt_M112 [.ref (w_adr E.2.1 10 0)] w (wk1 (fun v4 w3 => wle w w3 → zb_X1_count_p178 E L Q v4 w3) (fun e w => Q (.inr e) w))) else (if x1 = 7 then (if w_i w 10 0 14 = 0 then zb_X1_count_p194 E L Q 0 w else zb_X1_count_p194 E L Q (w_i w 10 0 6) w) else (if x1 = 8 then (if w_i w 10 0 14 = 0 then zb_X1_count_p210 E L Q 0 w else zb_X1_count_p210 E L Q (w_i w 10 0 9) w) else (if x1 = 9 then (if w_i w 10 0 14 = 0 then zb_X1_count_p226 E L Q 0 w else zb_X1_count_p226 E L Q (w_i w 10 0 8) w) else (if x1 = 10 then (if w_i w 10 0 14 = 0 then zb_X1_count_p242 E L Q 0 w else zb_X1_count_p242 E L Q (w_i w 10 0 11) w) else (if x1 = 11 then (if w_i w 10 0 14 = 0 then zb_X1_count_p258 E L Q 0 w else zb_X1_count_p258 E L Q (w_i w 10 0 12) w) else (if x1 = 12 then (if w_i w 10 0 14 = 0 then zb_X1_count_p274 E L Q 0 w else zb_X1_count_p274 E L Q (w_i w 10 0 10) w) else (if x1 = 13 then (if w_i w 10 0 14 = 0 then zb_X1_count_p290 E L Q 0 w else zw E (L - 22) kt_M108 [.ref (w_adr E.2.1 10 0)] w (wk1 (fun v6 w5 => wle w w5 → zb_X1_count_p290 E L Q v6 w5) (fun e w => Q (.inr e) w))) else Q (.inl (some (.int (-1)))) w))))))))))))))
theorem zt_X1_count_p0 {E : zE} {L : Nat} {Q : kx_Rs → wS → Prop} {x1 : Int32} {w : wS} (hL : 22 ≤ L) (h : zb_X1_count_p0 E L Q x1 w) : kzE E L kt_M5 0 [(0, .ref (w_adr E.2.1 0 0)), (1, .int x1)] [] w Q := by
  unfold zb_X1_count_p0 at h
  refine kz_aload_n (M := kt_M5) kX1_count_c0.1 rfl ?_
  refine kz_gfc (M := kt_M5) (x := 40) (c := 0) (o := 0) kX1_count_c0.2.1 wf_X1_74 (.inl rfl) ?_
  refine kz_gfi (M := kt_M5) (c := 10) (o := 0) kX1_count_c0.2.2.1 wf_X1_94 (.inl rfl) ?_
  refine kz_sti_n (M := kt_M5) [(0, .ref (w_adr E.2.1 0 0)), (1, .int x1)] kX1_count_c0.2.2.2.1 (Nat.le_of_ble_eq_true rfl) ⟨⟨rfl, rfl, .inl rfl⟩, ⟨⟨rfl, rfl, .inr rfl⟩, trivial⟩⟩ rfl ?_
  refine kz_iload_n (M := kt_M5) kX1_count_c0.2.2.2.2.1 rfl ?_
  refine kz_tsw (M := kt_M5) [(0, 80), (1, 99), (2, 118), (3, 134), (4, 139), (5, 147), (6, 163), (7, 179), (8, 195), (9, 211), (10, 227), (11, 243), (12, 259), (13, 275)] [_, _, _, _, _, _, _, _, _, _, _, _, _, _] 291 dX1_count_p9 (by decide +kernel) h ⟨fun h => ?_, fun h => ?_, fun h => ?_, fun h => ?_, fun h => ?_, fun h => ?_, fun h => ?_, fun h => ?_, fun h => ?_, fun h => ?_, fun h => ?_, fun h => ?_, fun h => ?_, fun h => ?_, trivial⟩ (fun h => ?_)
  · skip
    refine kz_aload_n (M := kt_M5) kX1_count_c0.2.2.2.2.2.2.1 rfl ?_
    refine kz_gfi (M := kt_M5) (c := 0) (o := 0) kX1_count_c0.2.2.2.2.2.2.2.1 wf_X1_90 (.inl rfl) ?_
    refine kz_if_eq (M := kt_M5) kX1_count_c1.1 (t := 97) rfl h (fun h => ?_) (fun h => ?_)
    · skip
      refine kz_ic (M := kt_M5) 0 kX1_count_c1.2.2.2.2.2.1 rfl ?_
      exact kz_weak [(0, .ref (w_adr E.2.1 0 0))] ⟨rfl, trivial⟩ rfl (zt_X1_count_p98 hL  h)
    · skip
      refine kz_aload_n (M := kt_M5) kX1_count_c1.2.1 rfl ?_
      refine kz_gfc (M := kt_M5) (x := 4) (c := 0) (o := 0) kX1_count_c1.2.2.1 wf_X1_10 (.inl rfl) ?_
      refine kz_gfi (M := kt_M5) (c := 1) (o := 0) kX1_count_c1.2.2.2.1 wf_X1_138 (.inl rfl) ?_
      refine kz_goto (M := kt_M5) kX1_count_c1.2.2.2.2.1 (t := 98) rfl ?_
      exact kz_weak [(0, .ref (w_adr E.2.1 0 0))] ⟨rfl, trivial⟩ rfl (zt_X1_count_p98 hL  h)
  · skip
    refine kz_aload_n (M := kt_M5) kX1_count_c1.2.2.2.2.2.2.2.1 rfl ?_
    refine kz_gfi (M := kt_M5) (c := 0) (o := 0) kX1_count_c2.1 wf_X1_90 (.inl rfl) ?_
    refine kz_if_eq (M := kt_M5) kX1_count_c2.2.1 (t := 116) rfl h (fun h => ?_) (fun h => ?_)
    · skip
      refine kz_ic (M := kt_M5) 0 kX1_count_c2.2.2.2.2.2.2.1 rfl ?_
      exact kz_weak [(0, .ref (w_adr E.2.1 0 0))] ⟨rfl, trivial⟩ rfl (zt_X1_count_p117 hL  h)
    · skip
      refine kz_aload_n (M := kt_M5) kX1_count_c2.2.2.1 rfl ?_
      refine kz_gfc (M := kt_M5) (x := 4) (c := 0) (o := 0) kX1_count_c2.2.2.2.1 wf_X1_10 (.inl rfl) ?_
      refine kz_gfi (M := kt_M5) (c := 1) (o := 0) kX1_count_c2.2.2.2.2.1 wf_X1_141 (.inl rfl) ?_
      refine kz_goto (M := kt_M5) kX1_count_c2.2.2.2.2.2.1 (t := 117) rfl ?_
      exact kz_weak [(0, .ref (w_adr E.2.1 0 0))] ⟨rfl, trivial⟩ rfl (zt_X1_count_p117 hL  h)
  · skip
    refine kz_aload_n (M := kt_M5) kX1_count_c3.1 rfl ?_
    refine kz_gfi (M := kt_M5) (c := 0) (o := 0) kX1_count_c3.2.1 wf_X1_90 (.inl rfl) ?_
    refine kz_if_eq (M := kt_M5) kX1_count_c3.2.2.1 (t := 132) rfl h (fun h => ?_) (fun h => ?_)
    · skip
      refine kz_ic (M := kt_M5) 0 kX1_count_c3.2.2.2.2.2.2.1 rfl ?_
      exact kz_weak [(0, .ref (w_adr E.2.1 0 0))] ⟨rfl, trivial⟩ rfl (zt_X1_count_p133 hL  h)
    · skip
      refine kz_aload_n (M := kt_M5) kX1_count_c3.2.2.2.1 rfl ?_
      refine kz_gfi (M := kt_M5) (c := 0) (o := 0) kX1_count_c3.2.2.2.2.1 wf_X1_135 (.inl rfl) ?_
      refine kz_goto (M := kt_M5) kX1_count_c3.2.2.2.2.2.1 (t := 133) rfl ?_
      exact kz_weak [(0, .ref (w_adr E.2.1 0 0))] ⟨rfl, trivial⟩ rfl (zt_X1_count_p133 hL  h)
  · skip
    refine kz_aload_n (M := kt_M5) kX1_count_c4.1 rfl ?_
    refine kz_gfi (M := kt_M5) (c := 0) (o := 0) kX1_count_c4.2.1 wf_X1_82 (.inl rfl) ?_
    exact kz_iret (M := kt_M5) kX1_count_c4.2.2.1 rfl rfl h
  · skip
    refine kz_aload_n (M := kt_M5) kX1_count_c4.2.2.2.1 rfl ?_
    refine kz_gfc (M := kt_M5) (x := 40) (c := 0) (o := 0) kX1_count_c4.2.2.2.2.1 wf_X1_74 (.inl rfl) ?_
    refine kz_cv1 (M := kt_M5) (c := 10) (o := 0) (As := []) (rest := []) kX1_count_c4.2.2.2.2.2.1 wl_X1_144 wMv_75 rfl (.inl rfl) rfl (Nat.le_trans (Nat.le_of_ble_eq_true rfl) hL) (Nat.le_of_ble_eq_true rfl) (Nat.le_of_ble_eq_true rfl) h (fun v2 w1 hle h => ?_) (fun _ _ _ h => kzx_no rfl h)
    have h := h hle
    exact kz_iret (M := kt_M5) kX1_count_c4.2.2.2.2.2.2.1 rfl rfl h
  · skip
    refine kz_iload_n (M := kt_M5) kX1_count_c4.2.2.2.2.2.2.2.1 rfl ?_
    refine kz_if_eq (M := kt_M5) kX1_count_c5.1 (t := 161) rfl h (fun h => ?_) (fun h => ?_)
    · skip
      refine kz_ic (M := kt_M5) 0 kX1_count_c5.2.2.2.2.2.1 rfl ?_
      exact kz_weak [(0, .ref (w_adr E.2.1 0 0))] ⟨rfl, trivial⟩ rfl (zt_X1_count_p162 hL  h)
    · skip
      refine kz_aload_n (M := kt_M5) kX1_count_c5.2.1 rfl ?_
      refine kz_gfc (M := kt_M5) (x := 40) (c := 0) (o := 0) kX1_count_c5.2.2.1 wf_X1_74 (.inl rfl) ?_
      refine kz_gfi (M := kt_M5) (c := 10) (o := 0) kX1_count_c5.2.2.2.1 wf_X1_148 (.inl rfl) ?_
      refine kz_goto (M := kt_M5) kX1_count_c5.2.2.2.2.1 (t := 162) rfl ?_
      exact kz_weak [(0, .ref (w_adr E.2.1 0 0))] ⟨rfl, trivial⟩ rfl (zt_X1_count_p162 hL  h)
  · skip
    refine kz_iload_n (M := kt_M5) kX1_count_c5.2.2.2.2.2.2.2.1 rfl ?_
    refine kz_if_eq (M := kt_M5) kX1_count_c6.1 (t := 177) rfl h (fun h => ?_) (fun h => ?_)
    · skip
      refine kz_ic (M := kt_M5) 0 kX1_count_c6.2.2.2.2.2.1 rfl ?_
      exact kz_weak [(0, .ref (w_adr E.2.1 0 0))] ⟨rfl, trivial⟩ rfl (zt_X1_count_p178 hL  h)
    · skip
      refine kz_aload_n (M := kt_M5) kX1_count_c6.2.1 rfl ?_
      refine kz_gfc (M := kt_M5) (x := 40) (c := 0) (o := 0) kX1_count_c6.2.2.1 wf_X1_74 (.inl rfl) ?_
      refine kz_cv1 (M := kt_M5) (c := 10) (o := 0) (As := []) (rest := []) kX1_count_c6.2.2.2.1 wl_X1_151 wMv_112 rfl (.inl rfl) rfl (Nat.le_trans (Nat.le_of_ble_eq_true rfl) hL) (Nat.le_of_ble_eq_true rfl) (Nat.le_of_ble_eq_true rfl) h (fun v4 w3 hle h => ?_) (fun _ _ _ h => kzx_no rfl h)
      have h := h hle
      refine kz_goto (M := kt_M5) kX1_count_c6.2.2.2.2.1 (t := 178) rfl ?_
      exact kz_weak [(0, .ref (w_adr E.2.1 0 0))] ⟨rfl, trivial⟩ rfl (zt_X1_count_p178 hL  h)
  · skip
    refine kz_iload_n (M := kt_M5) kX1_count_c6.2.2.2.2.2.2.2.1 rfl ?_
    refine kz_if_eq (M := kt_M5) kX1_count_c7.1 (t := 193) rfl h (fun h => ?_) (fun h => ?_)
    · skip
      refine kz_ic (M := kt_M5) 0 kX1_count_c7.2.2.2.2.2.1 rfl ?_
      exact kz_weak [(0, .ref (w_adr E.2.1 0 0))] ⟨rfl, trivial⟩ rfl (zt_X1_count_p194 hL  h)
    · skip
      refine kz_aload_n (M := kt_M5) kX1_count_c7.2.1 rfl ?_
      refine kz_gfc (M := kt_M5) (x := 40) (c := 0) (o := 0) kX1_count_c7.2.2.1 wf_X1_74 (.inl rfl) ?_
      refine kz_gfi (M := kt_M5) (c := 10) (o := 0) kX1_count_c7.2.2.2.1 wf_X1_154 (.inl rfl) ?_
      refine kz_goto (M := kt_M5) kX1_count_c7.2.2.2.2.1 (t := 194) rfl ?_
      exact kz_weak [(0, .ref (w_adr E.2.1 0 0))] ⟨rfl, trivial⟩ rfl (zt_X1_count_p194 hL  h)
  · skip
    refine kz_iload_n (M := kt_M5) kX1_count_c7.2.2.2.2.2.2.2.1 rfl ?_
    refine kz_if_eq (M := kt_M5) kX1_count_c8.1 (t := 209) rfl h (fun h => ?_) (fun h => ?_)
    · skip
      refine kz_ic (M := kt_M5) 0 kX1_count_c8.2.2.2.2.2.1 rfl ?_
      exact kz_weak [(0, .ref (w_adr E.2.1 0 0))] ⟨rfl, trivial⟩ rfl (zt_X1_count_p210 hL  h)
    · skip
      refine kz_aload_n (M := kt_M5) kX1_count_c8.2.1 rfl ?_
      refine kz_gfc (M := kt_M5) (x := 40) (c := 0) (o := 0) kX1_count_c8.2.2.1 wf_X1_74 (.inl rfl) ?_
      refine kz_gfi (M := kt_M5) (c := 10) (o := 0) kX1_count_c8.2.2.2.1 wf_X1_157 (.inl rfl) ?_
      refine kz_goto (M := kt_M5) kX1_count_c8.2.2.2.2.1 (t := 210) rfl ?_
      exact kz_weak [(0, .ref (w_adr E.2.1 0 0))] ⟨rfl, trivial⟩ rfl (zt_X1_count_p210 hL  h)
  · skip
    refine kz_iload_n (M := kt_M5) kX1_count_c8.2.2.2.2.2.2.2.1 rfl ?_
    refine kz_if_eq (M := kt_M5) kX1_count_c9.1 (t := 225) rfl h (fun h => ?_) (fun h => ?_)
    · skip
      refine kz_ic (M := kt_M5) 0 kX1_count_c9.2.2.2.2.2.1 rfl ?_
      exact kz_weak [(0, .ref (w_adr E.2.1 0 0))] ⟨rfl, trivial⟩ rfl (zt_X1_count_p226 hL  h)
    · skip
      refine kz_aload_n (M := kt_M5) kX1_count_c9.2.1 rfl ?_
      refine kz_gfc (M := kt_M5) (x := 40) (c := 0) (o := 0) kX1_count_c9.2.2.1 wf_X1_74 (.inl rfl) ?_
      refine kz_gfi (M := kt_M5) (c := 10) (o := 0) kX1_count_c9.2.2.2.1 wf_X1_160 (.inl rfl) ?_
      refine kz_goto (M := kt_M5) kX1_count_c9.2.2.2.2.1 (t := 226) rfl ?_
      exact kz_weak [(0, .ref (w_adr E.2.1 0 0))] ⟨rfl, trivial⟩ rfl (zt_X1_count_p226 hL  h)
  · skip
    refine kz_iload_n (M := kt_M5) kX1_count_c9.2.2.2.2.2.2.2.1 rfl ?_
    refine kz_if_eq (M := kt_M5) kX1_count_c10.1 (t := 241) rfl h (fun h => ?_) (fun h => ?_)
    · skip
      refine kz_ic (M := kt_M5) 0 kX1_count_c10.2.2.2.2.2.1 rfl ?_
      exact kz_weak [(0, .ref (w_adr E.2.1 0 0))] ⟨rfl, trivial⟩ rfl (zt_X1_count_p242 hL  h)
    · skip
      refine kz_aload_n (M := kt_M5) kX1_count_c10.2.1 rfl ?_
      refine kz_gfc (M := kt_M5) (x := 40) (c := 0) (o := 0) kX1_count_c10.2.2.1 wf_X1_74 (.inl rfl) ?_
      refine kz_gfi (M := kt_M5) (c := 10) (o := 0) kX1_count_c10.2.2.2.1 wf_X1_163 (.inl rfl) ?_
      refine kz_goto (M := kt_M5) kX1_count_c10.2.2.2.2.1 (t := 242) rfl ?_
      exact kz_weak [(0, .ref (w_adr E.2.1 0 0))] ⟨rfl, trivial⟩ rfl (zt_X1_count_p242 hL  h)
  · skip
    refine kz_iload_n (M := kt_M5) kX1_count_c10.2.2.2.2.2.2.2.1 rfl ?_
    refine kz_if_eq (M := kt_M5) kX1_count_c11.1 (t := 257) rfl h (fun h => ?_) (fun h => ?_)
    · skip
      refine kz_ic (M := kt_M5) 0 kX1_count_c11.2.2.2.2.2.1 rfl ?_
      exact kz_weak [(0, .ref (w_adr E.2.1 0 0))] ⟨rfl, trivial⟩ rfl (zt_X1_count_p258 hL  h)
    · skip
      refine kz_aload_n (M := kt_M5) kX1_count_c11.2.1 rfl ?_
      refine kz_gfc (M := kt_M5) (x := 40) (c := 0) (o := 0) kX1_count_c11.2.2.1 wf_X1_74 (.inl rfl) ?_
      refine kz_gfi (M := kt_M5) (c := 10) (o := 0) kX1_count_c11.2.2.2.1 wf_X1_166 (.inl rfl) ?_
      refine kz_goto (M := kt_M5) kX1_count_c11.2.2.2.2.1 (t := 258) rfl ?_
      exact kz_weak [(0, .ref (w_adr E.2.1 0 0))] ⟨rfl, trivial⟩ rfl (zt_X1_count_p258 hL  h)
  · skip
    refine kz_iload_n (M := kt_M5) kX1_count_c11.2.2.2.2.2.2.2.1 rfl ?_
    refine kz_if_eq (M := kt_M5) kX1_count_c12.1 (t := 273) rfl h (fun h => ?_) (fun h => ?_)
    · skip
      refine kz_ic (M := kt_M5) 0 kX1_count_c12.2.2.2.2.2.1 rfl ?_
      exact kz_weak [(0, .ref (w_adr E.2.1 0 0))] ⟨rfl, trivial⟩ rfl (zt_X1_count_p274 hL  h)
    · skip
      refine kz_aload_n (M := kt_M5) kX1_count_c12.2.1 rfl ?_
      refine kz_gfc (M := kt_M5) (x := 40) (c := 0) (o := 0) kX1_count_c12.2.2.1 wf_X1_74 (.inl rfl) ?_
      refine kz_gfi (M := kt_M5) (c := 10) (o := 0) kX1_count_c12.2.2.2.1 wf_X1_169 (.inl rfl) ?_
      refine kz_goto (M := kt_M5) kX1_count_c12.2.2.2.2.1 (t := 274) rfl ?_
      exact kz_weak [(0, .ref (w_adr E.2.1 0 0))] ⟨rfl, trivial⟩ rfl (zt_X1_count_p274 hL  h)
  · skip
    refine kz_iload_n (M := kt_M5) kX1_count_c12.2.2.2.2.2.2.2.1 rfl ?_
    refine kz_if_eq (M := kt_M5) kX1_count_c13.1 (t := 289) rfl h (fun h => ?_) (fun h => ?_)
    · skip
      refine kz_ic (M := kt_M5) 0 kX1_count_c13.2.2.2.2.2.1 rfl ?_
      exact kz_weak [(0, .ref (w_adr E.2.1 0 0))] ⟨rfl, trivial⟩ rfl (zt_X1_count_p290 hL  h)
    · skip
      refine kz_aload_n (M := kt_M5) kX1_count_c13.2.1 rfl ?_
      refine kz_gfc (M := kt_M5) (x := 40) (c := 0) (o := 0) kX1_count_c13.2.2.1 wf_X1_74 (.inl rfl) ?_
      refine kz_cv1 (M := kt_M5) (c := 10) (o := 0) (As := []) (rest := []) kX1_count_c13.2.2.2.1 wl_X1_172 wMv_108 rfl (.inl rfl) rfl (Nat.le_trans (Nat.le_of_ble_eq_true rfl) hL) (Nat.le_of_ble_eq_true rfl) (Nat.le_of_ble_eq_true rfl) h (fun v6 w5 hle h => ?_) (fun _ _ _ h => kzx_no rfl h)
      have h := h hle
      refine kz_goto (M := kt_M5) kX1_count_c13.2.2.2.2.1 (t := 290) rfl ?_
      exact kz_weak [(0, .ref (w_adr E.2.1 0 0))] ⟨rfl, trivial⟩ rfl (zt_X1_count_p290 hL  h)
  · skip
    refine kz_ic (M := kt_M5) (-1) kX1_count_c13.2.2.2.2.2.2.2.1 rfl ?_
    exact kz_iret (M := kt_M5) kX1_count_c14.1 rfl rfl h
def zb_X1_key_p0 (E : zE) (L : Nat) (Q : kx_Rs → wS → Prop) (x1 : Int32) (w : wS) : Prop := zw E (L - 24) kt_M79 [.ref (w_adr E.2.1 10 0), .int x1] w (wk1 (fun v2 w1 => wle w w1 → ((v2 = 0 ∨ v2 = 1) ∧ Q (.inl (some (.int v2))) w1)) (fun e w => Q (.inr e) w))
theorem zt_X1_key_p0 {E : zE} {L : Nat} {Q : kx_Rs → wS → Prop} {x1 : Int32} {w : wS} (hL : 24 ≤ L) (h : zb_X1_key_p0 E L Q x1 w) : kzE E L kt_M8 0 [(0, .ref (w_adr E.2.1 0 0)), (1, .int x1)] [] w Q := by
  unfold zb_X1_key_p0 at h
  refine kz_aload_n (M := kt_M8) kX1_key_c0.1 rfl ?_
  refine kz_gfc (M := kt_M8) (x := 40) (c := 0) (o := 0) kX1_key_c0.2.1 wf_X1_74 (.inl rfl) ?_
  refine kz_iload_n (M := kt_M8) kX1_key_c0.2.2.1 rfl ?_
  refine kz_cv1 (M := kt_M8) (c := 10) (o := 0) (As := [.int x1]) (rest := []) kX1_key_c0.2.2.2.1 wl_X1_188 wMv_79 rfl (.inl rfl) rfl (Nat.le_trans (Nat.le_of_ble_eq_true rfl) hL) (Nat.le_of_ble_eq_true rfl) (Nat.le_of_ble_eq_true rfl) h (fun v2 w1 hle h => ?_) (fun _ _ _ h => kzx_no rfl h)
  have h := h hle
  exact kz_iretz (M := kt_M8) kX1_key_c0.2.2.2.2.1 rfl h.1 h.2
def zb_X1_output_p42 (E : zE) (L : Nat) (Q : kx_Rs → wS → Prop) (y0 : Int32) (w : wS) : Prop := Q (.inl (some (.int y0))) w
theorem zt_X1_output_p42 {E : zE} {L : Nat} {Q : kx_Rs → wS → Prop} {y0 : Int32} {w : wS} (hL : 19 ≤ L) (h : zb_X1_output_p42 E L Q y0 w) : kzE E L kt_M10 42 [(0, .ref (w_adr E.2.1 0 0))] [.int y0] w Q := by
  unfold zb_X1_output_p42 at h
  exact kz_iret (M := kt_M10) kX1_output_c2.2.2.2.2.1 rfl rfl h
def zb_X1_output_p41 (E : zE) (L : Nat) (Q : kx_Rs → wS → Prop) (w : wS) : Prop := zb_X1_output_p42 E L Q (-1) w
theorem zt_X1_output_p41 {E : zE} {L : Nat} {Q : kx_Rs → wS → Prop} {w : wS} (hL : 19 ≤ L) (h : zb_X1_output_p41 E L Q  w) : kzE E L kt_M10 41 [(0, .ref (w_adr E.2.1 0 0))] [] w Q := by
  unfold zb_X1_output_p41 at h
  refine kz_ic (M := kt_M10) (-1) kX1_output_c2.2.2.2.1 rfl ?_
  exact kz_weak [(0, .ref (w_adr E.2.1 0 0))] ⟨rfl, trivial⟩ rfl (zt_X1_output_p42 hL  h)
def zb_X1_output_p0 (E : zE) (L : Nat) (Q : kx_Rs → wS → Prop) (x1 : Int32) (w : wS) : Prop := (if w_i w 10 0 14 = 0 then zb_X1_output_p41 E L Q w else (if x1 < 0 then zb_X1_output_p41 E L Q w else (if w_i w 10 0 11 ≤ x1 then zb_X1_output_p41 E L Q w else (kx_inb x1 (w_n w 10 0 15) = true ∧ zb_X1_output_p42 E L Q ((w_a w 10 0 15 (x1).toNatClampNeg) &&& 255) w))))
theorem zt_X1_output_p0 {E : zE} {L : Nat} {Q : kx_Rs → wS → Prop} {x1 : Int32} {w : wS} (hL : 19 ≤ L) (h : zb_X1_output_p0 E L Q x1 w) : kzE E L kt_M10 0 [(0, .ref (w_adr E.2.1 0 0)), (1, .int x1)] [] w Q := by
  unfold zb_X1_output_p0 at h
  refine kz_aload_n (M := kt_M10) kX1_output_c0.1 rfl ?_
  refine kz_gfc (M := kt_M10) (x := 40) (c := 0) (o := 0) kX1_output_c0.2.1 wf_X1_74 (.inl rfl) ?_
  refine kz_gfi (M := kt_M10) (c := 10) (o := 0) kX1_output_c0.2.2.1 wf_X1_94 (.inl rfl) ?_
  refine kz_if_eq (M := kt_M10) kX1_output_c0.2.2.2.1 (t := 41) rfl h (fun h => ?_) (fun h => ?_)
  · skip
    exact kz_weak [(0, .ref (w_adr E.2.1 0 0))] ⟨rfl, trivial⟩ rfl (zt_X1_output_p41 hL  h)
  · skip
    refine kz_iload_n (M := kt_M10) kX1_output_c0.2.2.2.2.1 rfl ?_
    refine kz_if_lt (M := kt_M10) kX1_output_c0.2.2.2.2.2.1 (t := 41) rfl h (fun h => ?_) (fun h => ?_)
    · skip
      exact kz_weak [(0, .ref (w_adr E.2.1 0 0))] ⟨rfl, trivial⟩ rfl (zt_X1_output_p41 hL  h)
    · skip
      refine kz_iload_n (M := kt_M10) kX1_output_c0.2.2.2.2.2.2.1 rfl ?_
      refine kz_aload_n (M := kt_M10) kX1_output_c0.2.2.2.2.2.2.2.1 rfl ?_
      refine kz_gfc (M := kt_M10) (x := 40) (c := 0) (o := 0) kX1_output_c1.1 wf_X1_74 (.inl rfl) ?_
      refine kz_gfi (M := kt_M10) (c := 10) (o := 0) kX1_output_c1.2.1 wf_X1_163 (.inl rfl) ?_
      refine kz_icmp_ge (M := kt_M10) kX1_output_c1.2.2.1 (t := 41) rfl h (fun h => ?_) (fun h => ?_)
      · skip
        exact kz_weak [(0, .ref (w_adr E.2.1 0 0))] ⟨rfl, trivial⟩ rfl (zt_X1_output_p41 hL  h)
      · skip
        refine kz_aload_n (M := kt_M10) kX1_output_c1.2.2.2.1 rfl ?_
        refine kz_gfc (M := kt_M10) (x := 40) (c := 0) (o := 0) kX1_output_c1.2.2.2.2.1 wf_X1_74 (.inl rfl) ?_
        refine kz_gfc (M := kt_M10) (x := 3575) (c := 10) (o := 0) kX1_output_c1.2.2.2.2.2.1 wf_X1_192 (.inl rfl) ?_
        refine kz_iload_n (M := kt_M10) kX1_output_c1.2.2.2.2.2.2.1 rfl ?_
        refine kz_bald (M := kt_M10) (c := 10) (o := 0) (k := 15) (a := (E.2.1 3575)) kX1_output_c1.2.2.2.2.2.2.2.1 ow_10_0_15 oa_10_0_15 ot_1 h (fun h => ?_)
        refine kz_si (M := kt_M10) 255 kX1_output_c2.1 rfl ?_
        refine kz_iand (M := kt_M10) kX1_output_c2.2.1 ?_
        refine kz_goto (M := kt_M10) kX1_output_c2.2.2.1 (t := 42) rfl ?_
        exact kz_weak [(0, .ref (w_adr E.2.1 0 0))] ⟨rfl, trivial⟩ rfl (zt_X1_output_p42 hL  h)
def zb_X1_process_p0 (E : zE) (L : Nat) (Q : kx_Rs → wS → Prop) (x1 : Int32) (x2 : Int32) (w : wS) : Prop := zw E (L - 25) kt_M96 [.ref (w_adr E.2.1 10 0), .int x1, .int x2] w (wk1 (fun v2 w1 => wle w w1 → Q (.inl (some (.int v2))) w1) (fun e w => Q (.inr e) w))
theorem zt_X1_process_p0 {E : zE} {L : Nat} {Q : kx_Rs → wS → Prop} {x1 : Int32} {x2 : Int32} {w : wS} (hL : 25 ≤ L) (h : zb_X1_process_p0 E L Q x1 x2 w) : kzE E L kt_M11 0 [(0, .ref (w_adr E.2.1 0 0)), (1, .int x1), (2, .int x2)] [] w Q := by
  unfold zb_X1_process_p0 at h
  refine kz_aload_n (M := kt_M11) kX1_process_c0.1 rfl ?_
  refine kz_gfc (M := kt_M11) (x := 40) (c := 0) (o := 0) kX1_process_c0.2.1 wf_X1_74 (.inl rfl) ?_
  refine kz_iload_n (M := kt_M11) kX1_process_c0.2.2.1 rfl ?_
  refine kz_iload_n (M := kt_M11) kX1_process_c0.2.2.2.1 rfl ?_
  refine kz_cv1 (M := kt_M11) (c := 10) (o := 0) (As := [.int x1, .int x2]) (rest := []) kX1_process_c0.2.2.2.2.1 wl_X1_195 wMv_96 rfl (.inl rfl) rfl (Nat.le_trans (Nat.le_of_ble_eq_true rfl) hL) (Nat.le_of_ble_eq_true rfl) (Nat.le_of_ble_eq_true rfl) h (fun v2 w1 hle h => ?_) (fun _ _ _ h => kzx_no rfl h)
  have h := h hle
  exact kz_iret (M := kt_M11) kX1_process_c0.2.2.2.2.2.1 rfl rfl h
def zb_X1_cell_p0 (E : zE) (L : Nat) (Q : kx_Rs → wS → Prop) (x1 : Int32) (w : wS) : Prop := zw E (L - 22) kt_M66 [.ref (w_adr E.2.1 10 0), .int x1] w (wk1 (fun v2 w1 => wle w w1 → Q (.inl (some (.int v2))) w1) (fun e w => Q (.inr e) w))
theorem zt_X1_cell_p0 {E : zE} {L : Nat} {Q : kx_Rs → wS → Prop} {x1 : Int32} {w : wS} (hL : 22 ≤ L) (h : zb_X1_cell_p0 E L Q x1 w) : kzE E L kt_M3 0 [(0, .ref (w_adr E.2.1 0 0)), (1, .int x1)] [] w Q := by
  unfold zb_X1_cell_p0 at h
  refine kz_aload_n (M := kt_M3) kX1_cell_c0.1 rfl ?_
  refine kz_gfc (M := kt_M3) (x := 40) (c := 0) (o := 0) kX1_cell_c0.2.1 wf_X1_74 (.inl rfl) ?_
  refine kz_iload_n (M := kt_M3) kX1_cell_c0.2.2.1 rfl ?_
  refine kz_cv1 (M := kt_M3) (c := 10) (o := 0) (As := [.int x1]) (rest := []) kX1_cell_c0.2.2.2.1 wl_X1_199 wMv_66 rfl (.inl rfl) rfl (Nat.le_trans (Nat.le_of_ble_eq_true rfl) hL) (Nat.le_of_ble_eq_true rfl) (Nat.le_of_ble_eq_true rfl) h (fun v2 w1 hle h => ?_) (fun _ _ _ h => kzx_no rfl h)
  have h := h hle
  exact kz_iret (M := kt_M3) kX1_cell_c0.2.2.2.2.1 rfl rfl h
def zb_X1_meeting_p0 (E : zE) (L : Nat) (Q : kx_Rs → wS → Prop) (x1 : Int32) (x2 : Int32) (w : wS) : Prop := zw E (L - 22) kt_M82 [.ref (w_adr E.2.1 10 0), .int x1, .int x2] w (wk1 (fun v2 w1 => wle w w1 → Q (.inl (some (.int v2))) w1) (fun e w => Q (.inr e) w))
theorem zt_X1_meeting_p0 {E : zE} {L : Nat} {Q : kx_Rs → wS → Prop} {x1 : Int32} {x2 : Int32} {w : wS} (hL : 22 ≤ L) (h : zb_X1_meeting_p0 E L Q x1 x2 w) : kzE E L kt_M9 0 [(0, .ref (w_adr E.2.1 0 0)), (1, .int x1), (2, .int x2)] [] w Q := by
  unfold zb_X1_meeting_p0 at h
  refine kz_aload_n (M := kt_M9) kX1_meeting_c0.1 rfl ?_
  refine kz_gfc (M := kt_M9) (x := 40) (c := 0) (o := 0) kX1_meeting_c0.2.1 wf_X1_74 (.inl rfl) ?_
  refine kz_iload_n (M := kt_M9) kX1_meeting_c0.2.2.1 rfl ?_
  refine kz_iload_n (M := kt_M9) kX1_meeting_c0.2.2.2.1 rfl ?_
  refine kz_cv1 (M := kt_M9) (c := 10) (o := 0) (As := [.int x1, .int x2]) (rest := []) kX1_meeting_c0.2.2.2.2.1 wl_X1_203 wMv_82 rfl (.inl rfl) rfl (Nat.le_trans (Nat.le_of_ble_eq_true rfl) hL) (Nat.le_of_ble_eq_true rfl) (Nat.le_of_ble_eq_true rfl) h (fun v2 w1 hle h => ?_) (fun _ _ _ h => kzx_no rfl h)
  have h := h hle
  exact kz_iret (M := kt_M9) kX1_meeting_c0.2.2.2.2.2.1 rfl rfl h
def zb_X1_clashes_p0 (E : zE) (L : Nat) (Q : kx_Rs → wS → Prop) (w : wS) : Prop := Q (.inl (some (.int 0))) w
theorem zt_X1_clashes_p0 {E : zE} {L : Nat} {Q : kx_Rs → wS → Prop} {w : wS} (hL : 19 ≤ L) (h : zb_X1_clashes_p0 E L Q  w) : kzE E L kt_M4 0 [(0, .ref (w_adr E.2.1 0 0))] [] w Q := by
  unfold zb_X1_clashes_p0 at h
  refine kz_ic (M := kt_M4) 0 kX1_clashes_c0.1 rfl ?_
  exact kz_iret (M := kt_M4) kX1_clashes_c0.2.1 rfl rfl h
def zb_X1_begin_p0 (E : zE) (L : Nat) (Q : kx_Rs → wS → Prop) (x1 : Int32) (w : wS) : Prop := (if ¬ w_i w 0 0 12 = 0 then zw E (L - 22) kt_M105 [.ref (w_adr E.2.1 10 0), .int x1] w (wk0 (fun w1 => wle w w1 → Q (.inl none) w1) (fun e w => Q (.inr e) w)) else ((1 ≤ w_C w ∧ 6 ≤ w_S w) ∧ Q (.inr "java/lang/IllegalStateException") (ws_obj w 19 6)))
theorem zt_X1_begin_p0 {E : zE} {L : Nat} {Q : kx_Rs → wS → Prop} {x1 : Int32} {w : wS} (hL : 120 ≤ L) (h : zb_X1_begin_p0 E L Q x1 w) : kzE E L kt_M2 0 [(0, .ref (w_adr E.2.1 0 0)), (1, .int x1)] [] w Q := by
  unfold zb_X1_begin_p0 at h
  refine kz_aload_n (M := kt_M2) kX1_begin_c0.1 rfl ?_
  refine kz_gfi (M := kt_M2) (c := 0) (o := 0) kX1_begin_c0.2.1 wf_X1_90 (.inl rfl) ?_
  refine kz_if_ne (M := kt_M2) kX1_begin_c0.2.2.1 (t := 15) rfl h (fun h => ?_) (fun h => ?_)
  · skip
    refine kz_aload_n (M := kt_M2) kX1_begin_c0.2.2.2.2.2.2.2.1 rfl ?_
    refine kz_gfc (M := kt_M2) (x := 40) (c := 0) (o := 0) kX1_begin_c1.1 wf_X1_74 (.inl rfl) ?_
    refine kz_iload_n (M := kt_M2) kX1_begin_c1.2.1 rfl ?_
    refine kz_cv0 (M := kt_M2) (c := 10) (o := 0) (As := [.int x1]) (rest := []) kX1_begin_c1.2.2.1 wl_X1_178 wMv_105 rfl (.inl rfl) rfl (Nat.le_trans (Nat.le_of_ble_eq_true rfl) hL) (Nat.le_of_ble_eq_true rfl) (Nat.le_of_ble_eq_true rfl) h (fun w1 hle h => ?_) (fun _ _ _ h => kzx_no rfl h)
    have h := h hle
    exact kz_ret (M := kt_M2) kX1_begin_c1.2.2.2.1 rfl h
  · skip
    refine kz_newx (M := kt_M2) kX1_begin_c0.2.2.2.1 zx_X1_begin_7 (Nat.le_trans (Nat.le_of_ble_eq_true rfl) hL) (Nat.le_of_ble_eq_true rfl) h (fun h => ?_)
    exact kz_throw (x := some (w_z w)) (M := kt_M2) (c := 19) (o := w_z w) kX1_begin_c0.2.2.2.2.2.2.1 rfl (.inr (w_l_obj rfl)) ⟨rfl, h⟩ (fun h => kzx_no rfl h)
def zL_X1_run_p39 (E : zE) (L : Nat) (Q : kx_Rs → wS → Prop) (x1 : Int32) (x2 : Int32) (w : wS) : Prop := kzE E L kt_M13 39 [(0, .ref (w_adr E.2.1 0 0)), (1, .int x1), (2, .int x2)] [] w Q
def zb_X1_run_p60 (E : zE) (L : Nat) (Q : kx_Rs → wS → Prop) (x2 : Int32) (w : wS) : Prop := Q (.inl (some (.int x2))) w
theorem zt_X1_run_p60 {E : zE} {L : Nat} {Q : kx_Rs → wS → Prop} {x2 : Int32} {w : wS} (hL : 120 ≤ L) (h : zb_X1_run_p60 E L Q x2 w) : kzE E L kt_M13 60 [(0, .ref (w_adr E.2.1 0 0)), (2, .int x2)] [] w Q := by
  unfold zb_X1_run_p60 at h
  refine kz_iload_n (M := kt_M13) kX1_run_c3.2.2.2.2.1 rfl ?_
  exact kz_iret (M := kt_M13) kX1_run_c3.2.2.2.2.2.1 rfl rfl h
def zb_X1_run_p39 (E : zE) (L : Nat) (Q : kx_Rs → wS → Prop) (x1 : Int32) (x2 : Int32) (w : wS) : Prop := (if x1 ≤ x2 then zb_X1_run_p60 E L Q x2 w else zw E (L - 24) kt_M106 [.ref (w_adr E.2.1 10 0)] w (wk1 (fun v2 w1 => wle w w1 → (if v2 = 0 then zb_X1_run_p60 E L Q x2 w1 else zL_X1_run_p39 E L Q x1 (x2 + 1) w1)) (fun e w => Q (.inr e) w)))
theorem zt_X1_run_p39 {E : zE} {L : Nat} {Q : kx_Rs → wS → Prop} {x1 : Int32} {x2 : Int32} {w : wS} (hL : 120 ≤ L) (h : zb_X1_run_p39 E L Q x1 x2 w) : kzE E L kt_M13 39 [(0, .ref (w_adr E.2.1 0 0)), (1, .int x1), (2, .int x2)] [] w Q := by
  unfold zb_X1_run_p39 at h
  refine kz_iload_n (M := kt_M13) kX1_run_c2.2.2.2.1 rfl ?_
  refine kz_iload_n (M := kt_M13) kX1_run_c2.2.2.2.2.1 rfl ?_
  refine kz_icmp_ge (M := kt_M13) kX1_run_c2.2.2.2.2.2.1 (t := 60) rfl h (fun h => ?_) (fun h => ?_)
  · skip
    exact kz_weak [(0, .ref (w_adr E.2.1 0 0)), (2, .int x2)] ⟨rfl, ⟨rfl, trivial⟩⟩ rfl (zt_X1_run_p60 hL  h)
  · skip
    refine kz_aload_n (M := kt_M13) kX1_run_c2.2.2.2.2.2.2.1 rfl ?_
    refine kz_gfc (M := kt_M13) (x := 40) (c := 0) (o := 0) kX1_run_c2.2.2.2.2.2.2.2.1 wf_X1_74 (.inl rfl) ?_
    refine kz_cv1 (M := kt_M13) (c := 10) (o := 0) (As := []) (rest := []) kX1_run_c3.1 wl_X1_184 wMv_106 rfl (.inl rfl) rfl (Nat.le_trans (Nat.le_of_ble_eq_true rfl) hL) (Nat.le_of_ble_eq_true rfl) (Nat.le_of_ble_eq_true rfl) h (fun v2 w1 hle h => ?_) (fun _ _ _ h => kzx_no rfl h)
    have h := h hle
    refine kz_if_eq (M := kt_M13) kX1_run_c3.2.1 (t := 60) rfl h (fun h => ?_) (fun h => ?_)
    · skip
      exact kz_weak [(0, .ref (w_adr E.2.1 0 0)), (2, .int x2)] ⟨rfl, ⟨rfl, trivial⟩⟩ rfl (zt_X1_run_p60 hL  h)
    · skip
      refine kz_inc (M := kt_M13) [(0, .ref (w_adr E.2.1 0 0)), (1, .int x1)] kX1_run_c3.2.2.1 rfl (Nat.le_of_ble_eq_true rfl) ⟨⟨rfl, rfl, .inl rfl⟩, ⟨⟨rfl, rfl, .inr rfl⟩, trivial⟩⟩ rfl ?_
      refine kz_goto (M := kt_M13) kX1_run_c3.2.2.2.1 (t := 39) rfl ?_
      exact kz_weak [(0, .ref (w_adr E.2.1 0 0)), (1, .int x1), (2, .int (x2 + 1))] ⟨rfl, ⟨rfl, ⟨rfl, trivial⟩⟩⟩ rfl h
def zb_X1_run_p11 (E : zE) (L : Nat) (Q : kx_Rs → wS → Prop) (w : wS) : Prop := ((1 ≤ w_C w ∧ 6 ≤ w_S w) ∧ Q (.inr "java/lang/IllegalArgumentException") (ws_obj w 20 6))
theorem zt_X1_run_p11 {E : zE} {L : Nat} {Q : kx_Rs → wS → Prop} {w : wS} (hL : 120 ≤ L) (h : zb_X1_run_p11 E L Q  w) : kzE E L kt_M13 11 [(0, .ref (w_adr E.2.1 0 0))] [] w Q := by
  unfold zb_X1_run_p11 at h
  refine kz_newx (M := kt_M13) kX1_run_c0.2.2.2.2.2.1 zx_X1_run_11 (Nat.le_trans (Nat.le_of_ble_eq_true rfl) hL) (Nat.le_of_ble_eq_true rfl) h (fun h => ?_)
  exact kz_throw (x := some (w_z w)) (M := kt_M13) (c := 20) (o := w_z w) kX1_run_c1.1 rfl (.inr (w_l_obj rfl)) ⟨rfl, h⟩ (fun h => kzx_no rfl h)
def zb_X1_run_p0 (E : zE) (L : Nat) (Q : kx_Rs → wS → Prop) (x1 : Int32) (w : wS) : Prop := (if x1 < 0 then zb_X1_run_p11 E L Q w else (if x1 ≤ 2000 then (if ¬ w_i w 10 0 14 = 0 then zL_X1_run_p39 E L Q x1 0 w else ((1 ≤ w_C w ∧ 6 ≤ w_S w) ∧ Q (.inr "java/lang/IllegalStateException") (ws_obj w 19 6))) else zb_X1_run_p11 E L Q w))
theorem zt_X1_run_p0 {E : zE} {L : Nat} {Q : kx_Rs → wS → Prop} {x1 : Int32} {w : wS} (hL : 120 ≤ L) (h : zb_X1_run_p0 E L Q x1 w) : kzE E L kt_M13 0 [(0, .ref (w_adr E.2.1 0 0)), (1, .int x1)] [] w Q := by
  unfold zb_X1_run_p0 at h
  refine kz_iload_n (M := kt_M13) kX1_run_c0.1 rfl ?_
  refine kz_if_lt (M := kt_M13) kX1_run_c0.2.1 (t := 11) rfl h (fun h => ?_) (fun h => ?_)
  · skip
    exact kz_weak [(0, .ref (w_adr E.2.1 0 0))] ⟨rfl, trivial⟩ rfl (zt_X1_run_p11 hL  h)
  · skip
    refine kz_iload_n (M := kt_M13) kX1_run_c0.2.2.1 rfl ?_
    refine kz_si (M := kt_M13) 2000 kX1_run_c0.2.2.2.1 rfl ?_
    refine kz_icmp_le (M := kt_M13) kX1_run_c0.2.2.2.2.1 (t := 19) rfl h (fun h => ?_) (fun h => ?_)
    · skip
      refine kz_aload_n (M := kt_M13) kX1_run_c1.2.1 rfl ?_
      refine kz_gfc (M := kt_M13) (x := 40) (c := 0) (o := 0) kX1_run_c1.2.2.1 wf_X1_74 (.inl rfl) ?_
      refine kz_gfi (M := kt_M13) (c := 10) (o := 0) kX1_run_c1.2.2.2.1 wf_X1_94 (.inl rfl) ?_
      refine kz_if_ne (M := kt_M13) kX1_run_c1.2.2.2.2.1 (t := 37) rfl h (fun h => ?_) (fun h => ?_)
      · skip
        refine kz_ic (M := kt_M13) 0 kX1_run_c2.2.1 rfl ?_
        refine kz_sti_n (M := kt_M13) [(0, .ref (w_adr E.2.1 0 0)), (1, .int x1)] kX1_run_c2.2.2.1 (Nat.le_of_ble_eq_true rfl) ⟨⟨rfl, rfl, .inl rfl⟩, ⟨⟨rfl, rfl, .inr rfl⟩, trivial⟩⟩ rfl ?_
        exact kz_weak [(0, .ref (w_adr E.2.1 0 0)), (1, .int x1), (2, .int 0)] ⟨rfl, ⟨rfl, ⟨rfl, trivial⟩⟩⟩ rfl h
      · skip
        refine kz_newx (M := kt_M13) kX1_run_c1.2.2.2.2.2.1 zx_X1_run_29 (Nat.le_trans (Nat.le_of_ble_eq_true rfl) hL) (Nat.le_of_ble_eq_true rfl) h (fun h => ?_)
        exact kz_throw (x := some (w_z w)) (M := kt_M13) (c := 19) (o := w_z w) kX1_run_c2.1 rfl (.inr (w_l_obj rfl)) ⟨rfl, h⟩ (fun h => kzx_no rfl h)
    · skip
      exact kz_weak [(0, .ref (w_adr E.2.1 0 0))] ⟨rfl, trivial⟩ rfl (zt_X1_run_p11 hL  h)
def zL_X2_cut_p56 (E : zE) (L : Nat) (Q : kx_Rs → wS → Prop) (x3 : Int32) (x4 : Int32) (x5 : Int32) (w : wS) : Prop := kzE E L kt_M238 56 [(0, .ref (w_adr E.2.1 1 0)), (3, .int x3), (4, .int x4), (5, .int x5)] [] w Q
def zL_X2_cut_p45 (E : zE) (L : Nat) (Q : kx_Rs → wS → Prop) (x3 : Int32) (x4 : Int32) (w : wS) : Prop := kzE E L kt_M238 45 [(0, .ref (w_adr E.2.1 1 0)), (3, .int x3), (4, .int x4)] [] w Q
def zb_X2_cut_p104 (E : zE) (L : Nat) (Q : kx_Rs → wS → Prop) (x4 : Int32) (x5 : Int32) (w : wS) : Prop := zL_X2_cut_p45 E L Q (x5 + 1) x4 w
theorem zt_X2_cut_p104 {E : zE} {L : Nat} {Q : kx_Rs → wS → Prop} {x4 : Int32} {x5 : Int32} {w : wS} (hL : 60 ≤ L) (h : zb_X2_cut_p104 E L Q x4 x5 w) : kzE E L kt_M238 104 [(0, .ref (w_adr E.2.1 1 0)), (4, .int x4), (5, .int x5)] [] w Q := by
  unfold zb_X2_cut_p104 at h
  refine kz_iload (M := kt_M238) kX2_cut_c7.1 rfl ?_
  refine kz_ic (M := kt_M238) 1 kX2_cut_c7.2.1 rfl ?_
  refine kz_iadd (M := kt_M238) kX2_cut_c7.2.2.1 ?_
  refine kz_sti_n (M := kt_M238) [(0, .ref (w_adr E.2.1 1 0)), (4, .int x4)] kX2_cut_c7.2.2.2.1 (Nat.le_of_ble_eq_true rfl) ⟨⟨rfl, rfl, .inl rfl⟩, ⟨⟨rfl, rfl, .inl rfl⟩, trivial⟩⟩ rfl ?_
  refine kz_goto (M := kt_M238) kX2_cut_c7.2.2.2.2.1 (t := 45) rfl ?_
  exact kz_weak [(0, .ref (w_adr E.2.1 1 0)), (3, .int (x5 + 1)), (4, .int x4)] ⟨rfl, ⟨rfl, ⟨rfl, trivial⟩⟩⟩ rfl h
def zb_X2_cut_p83 (E : zE) (L : Nat) (Q : kx_Rs → wS → Prop) (x3 : Int32) (x4 : Int32) (x5 : Int32) (w : wS) : Prop := zw E (L - 27) kt_M239 [.ref (w_adr E.2.1 1 0), .int x3, .int x5, .int x4] w (wk0 (fun w1 => wle w w1 → (if w_i w1 1 0 1 ≤ x5 then zb_X2_cut_p104 E L Q x4 x5 w1 else zb_X2_cut_p104 E L Q (x4 + 1) x5 w1)) (fun e w => Q (.inr e) w))
theorem zt_X2_cut_p83 {E : zE} {L : Nat} {Q : kx_Rs → wS → Prop} {x3 : Int32} {x4 : Int32} {x5 : Int32} {w : wS} (hL : 60 ≤ L) (h : zb_X2_cut_p83 E L Q x3 x4 x5 w) : kzE E L kt_M238 83 [(0, .ref (w_adr E.2.1 1 0)), (3, .int x3), (4, .int x4), (5, .int x5)] [] w Q := by
  unfold zb_X2_cut_p83 at h
  refine kz_aload_n (M := kt_M238) kX2_cut_c5.2.2.2.2.2.2.1 rfl ?_
  refine kz_iload_n (M := kt_M238) kX2_cut_c5.2.2.2.2.2.2.2.1 rfl ?_
  refine kz_iload (M := kt_M238) kX2_cut_c6.1 rfl ?_
  refine kz_iload (M := kt_M238) kX2_cut_c6.2.1 rfl ?_
  refine kz_cv0 (M := kt_M238) (c := 1) (o := 0) (As := [.int x3, .int x5, .int x4]) (rest := []) kX2_cut_c6.2.2.1 wl_X2_110 wMv_239 rfl (.inl rfl) rfl (Nat.le_trans (Nat.le_of_ble_eq_true rfl) hL) (Nat.le_of_ble_eq_true rfl) (Nat.le_of_ble_eq_true rfl) h (fun w1 hle h => ?_) (fun _ _ _ h => kzx_no rfl h)
  have h := h hle
  refine kz_iload (M := kt_M238) kX2_cut_c6.2.2.2.1 rfl ?_
  refine kz_aload_n (M := kt_M238) kX2_cut_c6.2.2.2.2.1 rfl ?_
  refine kz_gfi (M := kt_M238) (c := 1) (o := 0) kX2_cut_c6.2.2.2.2.2.1 wf_X2_64 (.inl rfl) ?_
  refine kz_icmp_ge (M := kt_M238) kX2_cut_c6.2.2.2.2.2.2.1 (t := 104) rfl h (fun h => ?_) (fun h => ?_)
  · skip
    exact kz_weak [(0, .ref (w_adr E.2.1 1 0)), (4, .int x4), (5, .int x5)] ⟨rfl, ⟨rfl, ⟨rfl, trivial⟩⟩⟩ rfl (zt_X2_cut_p104 hL  h)
  · skip
    refine kz_inc (M := kt_M238) [(0, .ref (w_adr E.2.1 1 0)), (5, .int x5)] kX2_cut_c6.2.2.2.2.2.2.2.1 rfl (Nat.le_of_ble_eq_true rfl) ⟨⟨rfl, rfl, .inl rfl⟩, ⟨⟨rfl, rfl, .inl rfl⟩, trivial⟩⟩ rfl ?_
    exact kz_weak [(0, .ref (w_adr E.2.1 1 0)), (4, .int (x4 + 1)), (5, .int x5)] ⟨rfl, ⟨rfl, ⟨rfl, trivial⟩⟩⟩ rfl (zt_X2_cut_p104 hL  h)
def zb_X2_cut_p56 (E : zE) (L : Nat) (Q : kx_Rs → wS → Prop) (x3 : Int32) (x4 : Int32) (x5 : Int32) (w : wS) : Prop := (if w_i w 1 0 1 ≤ x5 then zb_X2_cut_p83 E L Q x3 x4 x5 w else (kx_inb x5 (w_n w 1 0 0) = true ∧ (if w_a w 1 0 0 (x5).toNatClampNeg = 10 then zb_X2_cut_p83 E L Q x3 x4 x5 w else zL_X2_cut_p56 E L Q x3 x4 (x5 + 1) w)))
theorem zt_X2_cut_p56 {E : zE} {L : Nat} {Q : kx_Rs → wS → Prop} {x3 : Int32} {x4 : Int32} {x5 : Int32} {w : wS} (hL : 60 ≤ L) (h : zb_X2_cut_p56 E L Q x3 x4 x5 w) : kzE E L kt_M238 56 [(0, .ref (w_adr E.2.1 1 0)), (3, .int x3), (4, .int x4), (5, .int x5)] [] w Q := by
  unfold zb_X2_cut_p56 at h
  refine kz_iload (M := kt_M238) kX2_cut_c4.2.2.1 rfl ?_
  refine kz_aload_n (M := kt_M238) kX2_cut_c4.2.2.2.1 rfl ?_
  refine kz_gfi (M := kt_M238) (c := 1) (o := 0) kX2_cut_c4.2.2.2.2.1 wf_X2_64 (.inl rfl) ?_
  refine kz_icmp_ge (M := kt_M238) kX2_cut_c4.2.2.2.2.2.1 (t := 83) rfl h (fun h => ?_) (fun h => ?_)
  · skip
    exact kz_weak [(0, .ref (w_adr E.2.1 1 0)), (3, .int x3), (4, .int x4), (5, .int x5)] ⟨rfl, ⟨rfl, ⟨rfl, ⟨rfl, trivial⟩⟩⟩⟩ rfl (zt_X2_cut_p83 hL  h)
  · skip
    refine kz_aload_n (M := kt_M238) kX2_cut_c4.2.2.2.2.2.2.1 rfl ?_
    refine kz_gfc (M := kt_M238) (x := 1256) (c := 1) (o := 0) kX2_cut_c4.2.2.2.2.2.2.2.1 wf_X2_11 (.inl rfl) ?_
    refine kz_iload (M := kt_M238) kX2_cut_c5.1 rfl ?_
    refine kz_bald (M := kt_M238) (c := 1) (o := 0) (k := 0) (a := (E.2.1 1256)) kX2_cut_c5.2.1 ow_1_0_0 oa_1_0_0 ot_1 h (fun h => ?_)
    refine kz_bi (M := kt_M238) 10 kX2_cut_c5.2.2.1 rfl ?_
    refine kz_icmp_eq (M := kt_M238) kX2_cut_c5.2.2.2.1 (t := 83) rfl h (fun h => ?_) (fun h => ?_)
    · skip
      exact kz_weak [(0, .ref (w_adr E.2.1 1 0)), (3, .int x3), (4, .int x4), (5, .int x5)] ⟨rfl, ⟨rfl, ⟨rfl, ⟨rfl, trivial⟩⟩⟩⟩ rfl (zt_X2_cut_p83 hL  h)
    · skip
      refine kz_inc (M := kt_M238) [(0, .ref (w_adr E.2.1 1 0)), (3, .int x3), (4, .int x4)] kX2_cut_c5.2.2.2.2.1 rfl (Nat.le_of_ble_eq_true rfl) ⟨⟨rfl, rfl, .inl rfl⟩, ⟨⟨rfl, rfl, .inl rfl⟩, ⟨⟨rfl, rfl, .inr rfl⟩, trivial⟩⟩⟩ rfl ?_
      refine kz_goto (M := kt_M238) kX2_cut_c5.2.2.2.2.2.1 (t := 56) rfl ?_
      exact kz_weak [(0, .ref (w_adr E.2.1 1 0)), (3, .int x3), (4, .int x4), (5, .int (x5 + 1))] ⟨rfl, ⟨rfl, ⟨rfl, ⟨rfl, trivial⟩⟩⟩⟩ rfl h
def zb_X2_cut_p45 (E : zE) (L : Nat) (Q : kx_Rs → wS → Prop) (x3 : Int32) (x4 : Int32) (w : wS) : Prop := (if w_i w 1 0 1 ≤ x3 then zw E (L - 24) kt_M236 [.ref (w_adr E.2.1 1 0), va_rf (some (E.1.1 8)), .int 0, .int 0, .int x4] w (wk0 (fun w1 => wle w w1 → Q (.inl none) w1) (fun e w => Q (.inr e) w)) else zL_X2_cut_p56 E L Q x3 x4 x3 w)
theorem zt_X2_cut_p45 {E : zE} {L : Nat} {Q : kx_Rs → wS → Prop} {x3 : Int32} {x4 : Int32} {w : wS} (hL : 60 ≤ L) (h : zb_X2_cut_p45 E L Q x3 x4 w) : kzE E L kt_M238 45 [(0, .ref (w_adr E.2.1 1 0)), (3, .int x3), (4, .int x4)] [] w Q := by
  unfold zb_X2_cut_p45 at h
  refine kz_iload_n (M := kt_M238) kX2_cut_c3.2.2.2.2.1 rfl ?_
  refine kz_aload_n (M := kt_M238) kX2_cut_c3.2.2.2.2.2.1 rfl ?_
  refine kz_gfi (M := kt_M238) (c := 1) (o := 0) kX2_cut_c3.2.2.2.2.2.2.1 wf_X2_64 (.inl rfl) ?_
  refine kz_icmp_ge (M := kt_M238) kX2_cut_c3.2.2.2.2.2.2.2.1 (t := 112) rfl h (fun h => ?_) (fun h => ?_)
  · skip
    refine kz_aload_n (M := kt_M238) kX2_cut_c7.2.2.2.2.2.1 rfl ?_
    refine kz_getsE (M := kt_M238) (v := va_rf (some (E.1.1 8))) kX2_cut_c7.2.2.2.2.2.2.1 zs_X2_114 ?_
    refine kz_ic (M := kt_M238) 0 kX2_cut_c7.2.2.2.2.2.2.2.1 rfl ?_
    refine kz_ic (M := kt_M238) 0 kX2_cut_c8.1 rfl ?_
    refine kz_iload (M := kt_M238) kX2_cut_c8.2.1 rfl ?_
    refine kz_cv0 (M := kt_M238) (c := 1) (o := 0) (As := [va_rf (some (E.1.1 8)), .int 0, .int 0, .int x4]) (rest := []) kX2_cut_c8.2.2.1 wl_X2_118 wMv_236 rfl (.inl rfl) rfl (Nat.le_trans (Nat.le_of_ble_eq_true rfl) hL) (by simp [lg_sl, w_cat, z_ci, z_cr, z_cl, z_cn, kt_M236]) (Nat.le_of_ble_eq_true rfl) h (fun w1 hle h => ?_) (fun _ _ _ h => kzx_no rfl h)
    have h := h hle
    exact kz_ret (M := kt_M238) kX2_cut_c8.2.2.2.1 rfl h
  · skip
    refine kz_iload_n (M := kt_M238) kX2_cut_c4.1 rfl ?_
    refine kz_sti (M := kt_M238) [(0, .ref (w_adr E.2.1 1 0)), (3, .int x3), (4, .int x4)] kX2_cut_c4.2.1 (Nat.le_of_ble_eq_true rfl) ⟨⟨rfl, rfl, .inl rfl⟩, ⟨⟨rfl, rfl, .inl rfl⟩, ⟨⟨rfl, rfl, .inr rfl⟩, trivial⟩⟩⟩ rfl ?_
    exact kz_weak [(0, .ref (w_adr E.2.1 1 0)), (3, .int x3), (4, .int x4), (5, .int x3)] ⟨rfl, ⟨rfl, ⟨rfl, ⟨rfl, trivial⟩⟩⟩⟩ rfl h
def zb_X2_cut_p0 (E : zE) (L : Nat) (Q : kx_Rs → wS → Prop) (c1 o1 k1 : Nat) (x2 : Int32) (w : wS) : Prop := (((¬ (0 : Int32) < 0 ∧ ¬ (0 : Int32) < 0 ∧ ¬ (x2) < 0) ∧ (0 : Int32).toNatClampNeg + (x2).toNatClampNeg ≤ w_n w c1 o1 k1 ∧ (0 : Int32).toNatClampNeg + (x2).toNatClampNeg ≤ w_n w 1 0 0 ∧ ∀ i, i < (x2).toNatClampNeg → fits .byte (.int (w_a w c1 o1 k1 ((0 : Int32).toNatClampNeg + i))) = true) ∧ zw E (L - 26) kt_M243 [.ref (w_adr E.2.1 1 0)] (ws_i (ws_A w 1 0 0 (va_cpy (w_a w c1 o1 k1) (w_a w 1 0 0) (0 : Int32).toNatClampNeg (0 : Int32).toNatClampNeg (x2).toNatClampNeg)) 1 0 1 x2) (wk0 (fun w1 => wle (ws_i (ws_A w 1 0 0 (va_cpy (w_a w c1 o1 k1) (w_a w 1 0 0) (0 : Int32).toNatClampNeg (0 : Int32).toNatClampNeg (x2).toNatClampNeg)) 1 0 1 x2) w1 → zL_X2_cut_p45 E L Q 0 1 (ws_i (ws_i (ws_i (ws_i w1 1 0 7 0) 1 0 8 0) 1 0 9 0) 1 0 11 0)) (fun e w => Q (.inr e) w)))
theorem zt_X2_cut_p0 {E : zE} {L : Nat} {Q : kx_Rs → wS → Prop} {c1 o1 k1 : Nat} {x2 : Int32} {w : wS} (hL : 60 ≤ L) (ho1 : w_own w wG E.2.1 1 c1 o1 k1) (h : zb_X2_cut_p0 E L Q c1 o1 k1 x2 w) : kzE E L kt_M238 0 [(0, .ref (w_adr E.2.1 1 0)), (1, .ref (w_aa wG E.2.1 w c1 o1 k1)), (2, .int x2)] [] w Q := by
  unfold zb_X2_cut_p0 at h
  refine kz_aload_n (M := kt_M238) kX2_cut_c0.1 rfl ?_
  refine kz_ic (M := kt_M238) 0 kX2_cut_c0.2.1 rfl ?_
  refine kz_aload_n (M := kt_M238) kX2_cut_c0.2.2.1 rfl ?_
  refine kz_gfc (M := kt_M238) (x := 1256) (c := 1) (o := 0) kX2_cut_c0.2.2.2.1 wf_X2_11 (.inl rfl) ?_
  refine kz_ic (M := kt_M238) 0 kX2_cut_c0.2.2.2.2.1 rfl ?_
  refine kz_iload_n (M := kt_M238) kX2_cut_c0.2.2.2.2.2.1 rfl ?_
  refine kz_cpyi (M := kt_M238) (τ := 1) (ty := .byte) (c0 := c1) (o0 := o1) (k0 := k1) (c := 1) (o := 0) (k := 0) (a0 := (w_aa wG E.2.1 w c1 o1 k1)) (a := (E.2.1 1256)) kX2_cut_c0.2.2.2.2.2.2.1 (zac_X2_74) (by decide) rfl rfl ho1 rfl ow_1_0_0 oa_1_0_0 (Nat.le_trans (by simp [kx_cat, w_cat, zac_w, z_ci, z_cr, z_cl, z_cn]) hL) h (fun h => ?_)
  refine kz_aload_n (M := kt_M238) kX2_cut_c0.2.2.2.2.2.2.2.1 rfl ?_
  refine kz_iload_n (M := kt_M238) kX2_cut_c1.1 rfl ?_
  refine kz_pfi (M := kt_M238) (c := 1) (o := 0) kX2_cut_c1.2.1 wq_X2_64 (.inl rfl) ?_
  refine kz_aload_n (M := kt_M238) kX2_cut_c1.2.2.1 rfl ?_
  refine kz_cv0 (M := kt_M238) (c := 1) (o := 0) (As := []) (rest := []) kX2_cut_c1.2.2.2.1 wl_X2_98 wMv_243 rfl (.inl rfl) rfl (Nat.le_trans (Nat.le_of_ble_eq_true rfl) hL) (Nat.le_of_ble_eq_true rfl) (Nat.le_of_ble_eq_true rfl) h (fun w1 hle h => ?_) (fun _ _ _ h => kzx_no rfl h)
  have h := h hle
  refine kz_aload_n (M := kt_M238) kX2_cut_c1.2.2.2.2.1 rfl ?_
  refine kz_ic (M := kt_M238) 0 kX2_cut_c1.2.2.2.2.2.1 rfl ?_
  refine kz_pfi (M := kt_M238) (c := 1) (o := 0) kX2_cut_c1.2.2.2.2.2.2.1 wq_X2_95 (.inl rfl) ?_
  refine kz_aload_n (M := kt_M238) kX2_cut_c1.2.2.2.2.2.2.2.1 rfl ?_
  refine kz_ic (M := kt_M238) 0 kX2_cut_c2.1 rfl ?_
  refine kz_pfi (M := kt_M238) (c := 1) (o := 0) kX2_cut_c2.2.1 wq_X2_101 (.inl rfl) ?_
  refine kz_aload_n (M := kt_M238) kX2_cut_c2.2.2.1 rfl ?_
  refine kz_ic (M := kt_M238) 0 kX2_cut_c2.2.2.2.1 rfl ?_
  refine kz_pfi (M := kt_M238) (c := 1) (o := 0) kX2_cut_c2.2.2.2.2.1 wq_X2_104 (.inl rfl) ?_
  refine kz_aload_n (M := kt_M238) kX2_cut_c2.2.2.2.2.2.1 rfl ?_
  refine kz_ic (M := kt_M238) 0 kX2_cut_c2.2.2.2.2.2.2.1 rfl ?_
  refine kz_pfi (M := kt_M238) (c := 1) (o := 0) kX2_cut_c2.2.2.2.2.2.2.2.1 wq_X2_107 (.inl rfl) ?_
  refine kz_ic (M := kt_M238) 0 kX2_cut_c3.1 rfl ?_
  refine kz_sti_n (M := kt_M238) [(0, .ref (w_adr E.2.1 1 0))] kX2_cut_c3.2.1 (Nat.le_of_ble_eq_true rfl) ⟨⟨rfl, rfl, .inl rfl⟩, trivial⟩ rfl ?_
  refine kz_ic (M := kt_M238) 1 kX2_cut_c3.2.2.1 rfl ?_
  refine kz_sti (M := kt_M238) [(0, .ref (w_adr E.2.1 1 0)), (3, .int 0)] kX2_cut_c3.2.2.2.1 (Nat.le_of_ble_eq_true rfl) ⟨⟨rfl, rfl, .inl rfl⟩, ⟨⟨rfl, rfl, .inr rfl⟩, trivial⟩⟩ rfl ?_
  exact kz_weak [(0, .ref (w_adr E.2.1 1 0)), (3, .int 0), (4, .int 1)] ⟨rfl, ⟨rfl, ⟨rfl, trivial⟩⟩⟩ rfl h
def zL_X2_known_p50 (E : zE) (L : Nat) (Q : kx_Rs → wS → Prop) (x3 : Int32) (x4 : Int32) (w : wS) : Prop := kzE E L kt_M243 50 [(0, .ref (w_adr E.2.1 1 0)), (2, .ref (E.2.1 1275)), (3, .int x3), (4, .int x4)] [] w Q
def zL_X2_known_p15 (E : zE) (L : Nat) (Q : kx_Rs → wS → Prop) (x3 : Int32) (x4 : Int32) (w : wS) : Prop := kzE E L kt_M243 15 [(0, .ref (w_adr E.2.1 1 0)), (2, .ref (E.2.1 1275)), (3, .int x3), (4, .int x4)] [] w Q
def zb_X2_known_p99 (E : zE) (L : Nat) (Q : kx_Rs → wS → Prop) (x3 : Int32) (x4 : Int32) (w : wS) : Prop := zL_X2_known_p50 E L Q x3 (x4 + 1) w
theorem zt_X2_known_p99 {E : zE} {L : Nat} {Q : kx_Rs → wS → Prop} {x3 : Int32} {x4 : Int32} {w : wS} (hL : 120 ≤ L) (h : zb_X2_known_p99 E L Q x3 x4 w) : kzE E L kt_M243 99 [(0, .ref (w_adr E.2.1 1 0)), (2, .ref (E.2.1 1275)), (3, .int x3), (4, .int x4)] [] w Q := by
  unfold zb_X2_known_p99 at h
  refine kz_inc (M := kt_M243) [(0, .ref (w_adr E.2.1 1 0)), (2, .ref (E.2.1 1275)), (3, .int x3)] kX2_known_c6.2.2.2.2.2.2.1 rfl (Nat.le_of_ble_eq_true rfl) ⟨⟨rfl, rfl, .inl rfl⟩, ⟨⟨rfl, rfl, .inl rfl⟩, ⟨⟨rfl, rfl, .inr rfl⟩, trivial⟩⟩⟩ rfl ?_
  refine kz_goto (M := kt_M243) kX2_known_c6.2.2.2.2.2.2.2.1 (t := 50) rfl ?_
  exact kz_weak [(0, .ref (w_adr E.2.1 1 0)), (2, .ref (E.2.1 1275)), (3, .int x3), (4, .int (x4 + 1))] ⟨rfl, ⟨rfl, ⟨rfl, ⟨rfl, trivial⟩⟩⟩⟩ rfl h
def zb_X2_known_p50 (E : zE) (L : Nat) (Q : kx_Rs → wS → Prop) (x3 : Int32) (x4 : Int32) (w : wS) : Prop := (∃ i1, zK E (some (E.1.2.1 0)) i1 ∧ (if (Int32.ofNat (kw_sl i1)) ≤ x4 then Q (.inl none) w else (∃ i2, zK E (some (E.1.2.1 0)) i2 ∧ kx_inb x4 (kw_sl i2) = true ∧ (if (kw_sc i2 (x4).toNatClampNeg) = 32 then zw E (L - 27) kt_M244 [.ref (w_adr E.2.1 1 0), .ref (E.2.1 1275), .int 0, .int x3] w (wk1 (fun v4 w3 => wle w w3 → zb_X2_known_p99 E L Q 0 x4 w3) (fun e w => Q (.inr e) w)) else (kx_inb x3 (w_n w 1 0 19) = true ∧ zb_X2_known_p99 E L Q (x3 + 1) x4 (ws_a w 1 0 19 (x3).toNatClampNeg (vp_nar .byte (((kw_sc i2 (x4).toNatClampNeg)).toInt8.toInt32))))))))
theorem zt_X2_known_p50 {E : zE} {L : Nat} {Q : kx_Rs → wS → Prop} {x3 : Int32} {x4 : Int32} {w : wS} (hL : 120 ≤ L) (h : zb_X2_known_p50 E L Q x3 x4 w) : kzE E L kt_M243 50 [(0, .ref (w_adr E.2.1 1 0)), (2, .ref (E.2.1 1275)), (3, .int x3), (4, .int x4)] [] w Q := by
  unfold zb_X2_known_p50 at h
  refine kz_iload (M := kt_M243) kX2_known_c3.2.2.2.2.1 rfl ?_
  refine kz_ldcSE (M := kt_M243) kX2_known_c3.2.2.2.2.2.1 zk_X2_80 ?_
  obtain ⟨i1, ho, h⟩ := h
  refine kz_slen (M := kt_M243) (x := some (E.1.2.1 0)) (i := i1) kX2_known_c3.2.2.2.2.2.2.1 wl_X2_82 (Nat.le_trans (Nat.le_of_ble_eq_true rfl) hL) (Nat.le_of_ble_eq_true rfl) ho ?_
  refine kz_icmp_ge (M := kt_M243) kX2_known_c3.2.2.2.2.2.2.2.1 (t := 105) rfl h (fun h => ?_) (fun h => ?_)
  · skip
    exact kz_ret (M := kt_M243) kX2_known_c7.1 rfl h
  · skip
    refine kz_ldcSE (M := kt_M243) kX2_known_c4.1 zk_X2_80 ?_
    refine kz_iload (M := kt_M243) kX2_known_c4.2.1 rfl ?_
    obtain ⟨i2, ho, hb, h⟩ := h
    refine kz_sat (M := kt_M243) (x := some (E.1.2.1 0)) (i := i2) kX2_known_c4.2.2.1 wl_X2_87 (Nat.le_trans (Nat.le_of_ble_eq_true rfl) hL) (by simp [kx_cat, w_cat, z_ci, z_cr, z_cl, z_cn]) ho hb ?_
    refine kz_sti (M := kt_M243) [(0, .ref (w_adr E.2.1 1 0)), (2, .ref (E.2.1 1275)), (3, .int x3), (4, .int x4)] kX2_known_c4.2.2.2.1 (Nat.le_of_ble_eq_true rfl) ⟨⟨rfl, rfl, .inl rfl⟩, ⟨⟨rfl, rfl, .inl rfl⟩, ⟨⟨rfl, rfl, .inl rfl⟩, ⟨⟨rfl, rfl, .inr rfl⟩, trivial⟩⟩⟩⟩ rfl ?_
    refine kz_iload (M := kt_M243) kX2_known_c4.2.2.2.2.1 rfl ?_
    refine kz_bi (M := kt_M243) 32 kX2_known_c4.2.2.2.2.2.1 rfl ?_
    refine kz_icmp_eq (M := kt_M243) kX2_known_c4.2.2.2.2.2.2.1 (t := 88) rfl h (fun h => ?_) (fun h => ?_)
    · skip
      refine kz_aload_n (M := kt_M243) kX2_known_c5.2.2.2.2.2.2.1 rfl ?_
      refine kz_aload_n (M := kt_M243) kX2_known_c5.2.2.2.2.2.2.2.1 rfl ?_
      refine kz_ic (M := kt_M243) 0 kX2_known_c6.1 rfl ?_
      refine kz_iload_n (M := kt_M243) kX2_known_c6.2.1 rfl ?_
      refine kz_cv1 (M := kt_M243) (c := 1) (o := 0) (As := [.ref (E.2.1 1275), .int 0, .int x3]) (rest := []) kX2_known_c6.2.2.1 wl_X2_91 wMv_244 rfl (.inl rfl) rfl (Nat.le_trans (Nat.le_of_ble_eq_true rfl) hL) (Nat.le_of_ble_eq_true rfl) (Nat.le_of_ble_eq_true rfl) h (fun v4 w3 hle h => ?_) (fun _ _ _ h => kzx_no rfl h)
      have h := h hle
      refine kz_sti (M := kt_M243) [(0, .ref (w_adr E.2.1 1 0)), (2, .ref (E.2.1 1275)), (4, .int x4)] kX2_known_c6.2.2.2.1 (Nat.le_of_ble_eq_true rfl) ⟨⟨rfl, rfl, .inl rfl⟩, ⟨⟨rfl, rfl, .inl rfl⟩, ⟨⟨rfl, rfl, .inl rfl⟩, trivial⟩⟩⟩ rfl ?_
      refine kz_ic (M := kt_M243) 0 kX2_known_c6.2.2.2.2.1 rfl ?_
      refine kz_sti_n (M := kt_M243) [(0, .ref (w_adr E.2.1 1 0)), (2, .ref (E.2.1 1275)), (4, .int x4)] kX2_known_c6.2.2.2.2.2.1 (Nat.le_of_ble_eq_true rfl) ⟨⟨rfl, rfl, .inl rfl⟩, ⟨⟨rfl, rfl, .inr rfl⟩, ⟨⟨rfl, rfl, .inl rfl⟩, trivial⟩⟩⟩ rfl ?_
      exact kz_weak [(0, .ref (w_adr E.2.1 1 0)), (2, .ref (E.2.1 1275)), (3, .int 0), (4, .int x4)] ⟨rfl, ⟨rfl, ⟨rfl, ⟨rfl, trivial⟩⟩⟩⟩ rfl (zt_X2_known_p99 hL  h)
    · skip
      refine kz_aload_n (M := kt_M243) kX2_known_c4.2.2.2.2.2.2.2.1 rfl ?_
      refine kz_iload_n (M := kt_M243) kX2_known_c5.1 rfl ?_
      refine kz_inc (M := kt_M243) [(0, .ref (w_adr E.2.1 1 0)), (2, .ref (E.2.1 1275)), (4, .int x4), (5, .int (kw_sc i2 (x4).toNatClampNeg))] kX2_known_c5.2.1 rfl (Nat.le_of_ble_eq_true rfl) ⟨⟨rfl, rfl, .inl rfl⟩, ⟨⟨rfl, rfl, .inr rfl⟩, ⟨⟨rfl, rfl, .inl rfl⟩, ⟨⟨rfl, rfl, .inl rfl⟩, trivial⟩⟩⟩⟩ rfl ?_
      refine kz_iload (M := kt_M243) kX2_known_c5.2.2.1 rfl ?_
      refine kz_i2b (M := kt_M243) kX2_known_c5.2.2.2.1 ?_
      refine kz_bast (M := kt_M243) (c := 1) (o := 0) (k := 19) (a := (E.2.1 1275)) kX2_known_c5.2.2.2.2.1 ow_1_0_19 oa_1_0_19 ot_1 h (fun h => ?_)
      refine kz_goto (M := kt_M243) kX2_known_c5.2.2.2.2.2.1 (t := 99) rfl ?_
      exact kz_weak [(0, .ref (w_adr E.2.1 1 0)), (2, .ref (E.2.1 1275)), (3, .int (x3 + 1)), (4, .int x4)] ⟨rfl, ⟨rfl, ⟨rfl, ⟨rfl, trivial⟩⟩⟩⟩ rfl (zt_X2_known_p99 hL  h)
def zb_X2_known_p15 (E : zE) (L : Nat) (Q : kx_Rs → wS → Prop) (x3 : Int32) (x4 : Int32) (w : wS) : Prop := (if 256 ≤ x4 then zL_X2_known_p50 E L Q x3 0 (ws_i (ws_i w 1 0 17 0) 1 0 18 0) else (kx_inb x4 (w_n w 1 0 15) = true ∧ zL_X2_known_p15 E L Q x3 (x4 + 1) (ws_a w 1 0 15 (x4).toNatClampNeg (-1))))
theorem zt_X2_known_p15 {E : zE} {L : Nat} {Q : kx_Rs → wS → Prop} {x3 : Int32} {x4 : Int32} {w : wS} (hL : 120 ≤ L) (h : zb_X2_known_p15 E L Q x3 x4 w) : kzE E L kt_M243 15 [(0, .ref (w_adr E.2.1 1 0)), (2, .ref (E.2.1 1275)), (3, .int x3), (4, .int x4)] [] w Q := by
  unfold zb_X2_known_p15 at h
  refine kz_iload (M := kt_M243) kX2_known_c1.2.2.1 rfl ?_
  refine kz_si (M := kt_M243) 256 kX2_known_c1.2.2.2.1 rfl ?_
  refine kz_icmp_ge (M := kt_M243) kX2_known_c1.2.2.2.2.1 (t := 37) rfl h (fun h => ?_) (fun h => ?_)
  · skip
    refine kz_aload_n (M := kt_M243) kX2_known_c2.2.2.2.2.1 rfl ?_
    refine kz_ic (M := kt_M243) 0 kX2_known_c2.2.2.2.2.2.1 rfl ?_
    refine kz_pfi (M := kt_M243) (c := 1) (o := 0) kX2_known_c2.2.2.2.2.2.2.1 wq_X2_68 (.inl rfl) ?_
    refine kz_aload_n (M := kt_M243) kX2_known_c2.2.2.2.2.2.2.2.1 rfl ?_
    refine kz_ic (M := kt_M243) 0 kX2_known_c3.1 rfl ?_
    refine kz_pfi (M := kt_M243) (c := 1) (o := 0) kX2_known_c3.2.1 wq_X2_71 (.inl rfl) ?_
    refine kz_ic (M := kt_M243) 0 kX2_known_c3.2.2.1 rfl ?_
    refine kz_sti (M := kt_M243) [(0, .ref (w_adr E.2.1 1 0)), (2, .ref (E.2.1 1275)), (3, .int x3)] kX2_known_c3.2.2.2.1 (Nat.le_of_ble_eq_true rfl) ⟨⟨rfl, rfl, .inl rfl⟩, ⟨⟨rfl, rfl, .inl rfl⟩, ⟨⟨rfl, rfl, .inr rfl⟩, trivial⟩⟩⟩ rfl ?_
    exact kz_weak [(0, .ref (w_adr E.2.1 1 0)), (2, .ref (E.2.1 1275)), (3, .int x3), (4, .int 0)] ⟨rfl, ⟨rfl, ⟨rfl, ⟨rfl, trivial⟩⟩⟩⟩ rfl h
  · skip
    refine kz_aload_n (M := kt_M243) kX2_known_c1.2.2.2.2.2.1 rfl ?_
    refine kz_gfc (M := kt_M243) (x := 1271) (c := 1) (o := 0) kX2_known_c1.2.2.2.2.2.2.1 wf_X2_48 (.inl rfl) ?_
    refine kz_iload (M := kt_M243) kX2_known_c1.2.2.2.2.2.2.2.1 rfl ?_
    refine kz_ic (M := kt_M243) (-1) kX2_known_c2.1 rfl ?_
    refine kz_iast (M := kt_M243) (c := 1) (o := 0) (k := 15) (a := (E.2.1 1271)) kX2_known_c2.2.1 ow_1_0_15 oa_1_0_15 ot_0 h (fun h => ?_)
    refine kz_inc (M := kt_M243) [(0, .ref (w_adr E.2.1 1 0)), (2, .ref (E.2.1 1275)), (3, .int x3)] kX2_known_c2.2.2.1 rfl (Nat.le_of_ble_eq_true rfl) ⟨⟨rfl, rfl, .inl rfl⟩, ⟨⟨rfl, rfl, .inl rfl⟩, ⟨⟨rfl, rfl, .inr rfl⟩, trivial⟩⟩⟩ rfl ?_
    refine kz_goto (M := kt_M243) kX2_known_c2.2.2.2.1 (t := 15) rfl ?_
    exact kz_weak [(0, .ref (w_adr E.2.1 1 0)), (2, .ref (E.2.1 1275)), (3, .int x3), (4, .int (x4 + 1))] ⟨rfl, ⟨rfl, ⟨rfl, ⟨rfl, trivial⟩⟩⟩⟩ rfl h
def zb_X2_known_p0 (E : zE) (L : Nat) (Q : kx_Rs → wS → Prop) (w : wS) : Prop := zL_X2_known_p15 E L Q 0 0 w
theorem zt_X2_known_p0 {E : zE} {L : Nat} {Q : kx_Rs → wS → Prop} {w : wS} (hL : 120 ≤ L) (h : zb_X2_known_p0 E L Q  w) : kzE E L kt_M243 0 [(0, .ref (w_adr E.2.1 1 0))] [] w Q := by
  unfold zb_X2_known_p0 at h
  refine kz_aload_n (M := kt_M243) kX2_known_c0.1 rfl ?_
  refine kz_gfc (M := kt_M243) (x := 1256) (c := 1) (o := 0) kX2_known_c0.2.1 wf_X2_11 (.inl rfl) ?_
  refine kz_sta_n (M := kt_M243) [(0, .ref (w_adr E.2.1 1 0))] kX2_known_c0.2.2.1 (Nat.le_of_ble_eq_true rfl) ⟨⟨rfl, rfl, .inr rfl⟩, trivial⟩ rfl ?_
  refine kz_aload_n (M := kt_M243) kX2_known_c0.2.2.2.1 rfl ?_
  refine kz_gfc (M := kt_M243) (x := 1275) (c := 1) (o := 0) kX2_known_c0.2.2.2.2.1 wf_X2_54 (.inl rfl) ?_
  refine kz_sta_n (M := kt_M243) [(0, .ref (w_adr E.2.1 1 0))] kX2_known_c0.2.2.2.2.2.1 (Nat.le_of_ble_eq_true rfl) ⟨⟨rfl, rfl, .inl rfl⟩, trivial⟩ rfl ?_
  refine kz_ic (M := kt_M243) 0 kX2_known_c0.2.2.2.2.2.2.1 rfl ?_
  refine kz_sti_n (M := kt_M243) [(0, .ref (w_adr E.2.1 1 0)), (2, .ref (E.2.1 1275))] kX2_known_c0.2.2.2.2.2.2.2.1 (Nat.le_of_ble_eq_true rfl) ⟨⟨rfl, rfl, .inl rfl⟩, ⟨⟨rfl, rfl, .inr rfl⟩, trivial⟩⟩ rfl ?_
  refine kz_ic (M := kt_M243) 0 kX2_known_c1.1 rfl ?_
  refine kz_sti (M := kt_M243) [(0, .ref (w_adr E.2.1 1 0)), (2, .ref (E.2.1 1275)), (3, .int 0)] kX2_known_c1.2.1 (Nat.le_of_ble_eq_true rfl) ⟨⟨rfl, rfl, .inl rfl⟩, ⟨⟨rfl, rfl, .inl rfl⟩, ⟨⟨rfl, rfl, .inr rfl⟩, trivial⟩⟩⟩ rfl ?_
  exact kz_weak [(0, .ref (w_adr E.2.1 1 0)), (2, .ref (E.2.1 1275)), (3, .int 0), (4, .int 0)] ⟨rfl, ⟨rfl, ⟨rfl, ⟨rfl, trivial⟩⟩⟩⟩ rfl h
def zL_X2_name_p82 (E : zE) (L : Nat) (Q : kx_Rs → wS → Prop) (c1 o1 k1 : Nat) (x2 : Int32) (x3 : Int32) (x4 : Int32) (x5 : Int32) (x6 : Int32) (x7 : Int32) (w : wS) : Prop := kzE E L kt_M244 82 [(0, .ref (w_adr E.2.1 1 0)), (1, .ref (w_aa wG E.2.1 w c1 o1 k1)), (2, .int x2), (3, .int x3), (4, .int x4), (5, .int x5), (6, .int x6), (7, .int x7)] [] w Q
def zL_X2_name_p55 (E : zE) (L : Nat) (Q : kx_Rs → wS → Prop) (c1 o1 k1 : Nat) (x2 : Int32) (x3 : Int32) (x4 : Int32) (x5 : Int32) (w : wS) : Prop := kzE E L kt_M244 55 [(0, .ref (w_adr E.2.1 1 0)), (1, .ref (w_aa wG E.2.1 w c1 o1 k1)), (2, .int x2), (3, .int x3), (4, .int x4), (5, .int x5)] [] w Q
def zL_X2_name_p6 (E : zE) (L : Nat) (Q : kx_Rs → wS → Prop) (c1 o1 k1 : Nat) (x2 : Int32) (x3 : Int32) (x4 : Int32) (x5 : Int32) (w : wS) : Prop := kzE E L kt_M244 6 [(0, .ref (w_adr E.2.1 1 0)), (1, .ref (w_aa wG E.2.1 w c1 o1 k1)), (2, .int x2), (3, .int x3), (4, .int x4), (5, .int x5)] [] w Q
def zb_X2_name_p130 (E : zE) (L : Nat) (Q : kx_Rs → wS → Prop) (c1 o1 k1 : Nat) (x2 : Int32) (x3 : Int32) (x4 : Int32) (x5 : Int32) (x6 : Int32) (w : wS) : Prop := (if x6 = 0 then (kx_inb x5 (w_n w 1 0 14) = true ∧ zL_X2_name_p55 E L Q c1 o1 k1 x2 x3 x4 (w_a w 1 0 14 (x5).toNatClampNeg) w) else Q (.inl (some (.int x5))) w)
theorem zt_X2_name_p130 {E : zE} {L : Nat} {Q : kx_Rs → wS → Prop} {c1 o1 k1 : Nat} {x2 : Int32} {x3 : Int32} {x4 : Int32} {x5 : Int32} {x6 : Int32} {w : wS} (hL : 60 ≤ L) (ho1 : w_own w wG E.2.1 1 c1 o1 k1) (h : zb_X2_name_p130 E L Q c1 o1 k1 x2 x3 x4 x5 x6 w) : kzE E L kt_M244 130 [(0, .ref (w_adr E.2.1 1 0)), (1, .ref (w_aa wG E.2.1 w c1 o1 k1)), (2, .int x2), (3, .int x3), (4, .int x4), (5, .int x5), (6, .int x6)] [] w Q := by
  unfold zb_X2_name_p130 at h
  refine kz_iload (M := kt_M244) kX2_name_c9.2.1 rfl ?_
  refine kz_if_eq (M := kt_M244) kX2_name_c9.2.2.1 (t := 138) rfl h (fun h => ?_) (fun h => ?_)
  · skip
    refine kz_aload_n (M := kt_M244) kX2_name_c9.2.2.2.2.2.1 rfl ?_
    refine kz_gfc (M := kt_M244) (x := 1270) (c := 1) (o := 0) kX2_name_c9.2.2.2.2.2.2.1 wf_X2_45 (.inl rfl) ?_
    refine kz_iload (M := kt_M244) kX2_name_c9.2.2.2.2.2.2.2.1 rfl ?_
    refine kz_iald (M := kt_M244) (c := 1) (o := 0) (k := 14) (a := (E.2.1 1270)) kX2_name_c10.1 ow_1_0_14 oa_1_0_14 ot_0 h (fun h => ?_)
    refine kz_sti (M := kt_M244) [(0, .ref (w_adr E.2.1 1 0)), (1, .ref (w_aa wG E.2.1 w c1 o1 k1)), (2, .int x2), (3, .int x3), (4, .int x4)] kX2_name_c10.2.1 (Nat.le_of_ble_eq_true rfl) ⟨⟨rfl, rfl, .inl rfl⟩, ⟨⟨rfl, rfl, .inl rfl⟩, ⟨⟨rfl, rfl, .inl rfl⟩, ⟨⟨rfl, rfl, .inl rfl⟩, ⟨⟨rfl, rfl, .inr rfl⟩, trivial⟩⟩⟩⟩⟩ rfl ?_
    refine kz_goto (M := kt_M244) kX2_name_c10.2.2.1 (t := 55) rfl ?_
    exact kz_weak [(0, .ref (w_adr E.2.1 1 0)), (1, .ref (w_aa wG E.2.1 w c1 o1 k1)), (2, .int x2), (3, .int x3), (4, .int x4), (5, .int (w_a w 1 0 14 (x5).toNatClampNeg))] ⟨rfl, ⟨rfl, ⟨rfl, ⟨rfl, ⟨rfl, ⟨rfl, trivial⟩⟩⟩⟩⟩⟩ rfl h
  · skip
    refine kz_iload (M := kt_M244) kX2_name_c9.2.2.2.1 rfl ?_
    exact kz_iret (M := kt_M244) kX2_name_c9.2.2.2.2.1 rfl rfl h
def zb_X2_name_p122 (E : zE) (L : Nat) (Q : kx_Rs → wS → Prop) (c1 o1 k1 : Nat) (x2 : Int32) (x3 : Int32) (x4 : Int32) (x5 : Int32) (x7 : Int32) (y0 : Int32) (w : wS) : Prop := zL_X2_name_p82 E L Q c1 o1 k1 x2 x3 x4 x5 y0 (x7 + 1) w
theorem zt_X2_name_p122 {E : zE} {L : Nat} {Q : kx_Rs → wS → Prop} {c1 o1 k1 : Nat} {x2 : Int32} {x3 : Int32} {x4 : Int32} {x5 : Int32} {x7 : Int32} {y0 : Int32} {w : wS} (hL : 60 ≤ L) (ho1 : w_own w wG E.2.1 1 c1 o1 k1) (h : zb_X2_name_p122 E L Q c1 o1 k1 x2 x3 x4 x5 x7 y0 w) : kzE E L kt_M244 122 [(0, .ref (w_adr E.2.1 1 0)), (1, .ref (w_aa wG E.2.1 w c1 o1 k1)), (2, .int x2), (3, .int x3), (4, .int x4), (5, .int x5), (7, .int x7)] [.int y0] w Q := by
  unfold zb_X2_name_p122 at h
  refine kz_sti (M := kt_M244) [(0, .ref (w_adr E.2.1 1 0)), (1, .ref (w_aa wG E.2.1 w c1 o1 k1)), (2, .int x2), (3, .int x3), (4, .int x4), (5, .int x5), (7, .int x7)] kX2_name_c8.2.2.2.2.2.2.1 (Nat.le_of_ble_eq_true rfl) ⟨⟨rfl, rfl, .inl rfl⟩, ⟨⟨rfl, rfl, .inl rfl⟩, ⟨⟨rfl, rfl, .inl rfl⟩, ⟨⟨rfl, rfl, .inl rfl⟩, ⟨⟨rfl, rfl, .inl rfl⟩, ⟨⟨rfl, rfl, .inr rfl⟩, ⟨⟨rfl, rfl, .inl rfl⟩, trivial⟩⟩⟩⟩⟩⟩⟩ rfl ?_
  refine kz_inc (M := kt_M244) [(0, .ref (w_adr E.2.1 1 0)), (1, .ref (w_aa wG E.2.1 w c1 o1 k1)), (2, .int x2), (3, .int x3), (4, .int x4), (5, .int x5), (6, .int y0)] kX2_name_c8.2.2.2.2.2.2.2.1 rfl (Nat.le_of_ble_eq_true rfl) ⟨⟨rfl, rfl, .inl rfl⟩, ⟨⟨rfl, rfl, .inl rfl⟩, ⟨⟨rfl, rfl, .inl rfl⟩, ⟨⟨rfl, rfl, .inl rfl⟩, ⟨⟨rfl, rfl, .inl rfl⟩, ⟨⟨rfl, rfl, .inl rfl⟩, ⟨⟨rfl, rfl, .inr rfl⟩, trivial⟩⟩⟩⟩⟩⟩⟩ rfl ?_
  refine kz_goto (M := kt_M244) kX2_name_c9.1 (t := 82) rfl ?_
  exact kz_weak [(0, .ref (w_adr E.2.1 1 0)), (1, .ref (w_aa wG E.2.1 w c1 o1 k1)), (2, .int x2), (3, .int x3), (4, .int x4), (5, .int x5), (6, .int y0), (7, .int (x7 + 1))] ⟨rfl, ⟨rfl, ⟨rfl, ⟨rfl, ⟨rfl, ⟨rfl, ⟨rfl, ⟨rfl, trivial⟩⟩⟩⟩⟩⟩⟩⟩ rfl h
def zb_X2_name_p82 (E : zE) (L : Nat) (Q : kx_Rs → wS → Prop) (c1 o1 k1 : Nat) (x2 : Int32) (x3 : Int32) (x4 : Int32) (x5 : Int32) (x6 : Int32) (x7 : Int32) (w : wS) : Prop := (if x6 = 0 then zb_X2_name_p130 E L Q c1 o1 k1 x2 x3 x4 x5 x6 w else (if x3 ≤ x7 then zb_X2_name_p130 E L Q c1 o1 k1 x2 x3 x4 x5 x6 w else (kx_inb x5 (w_n w 1 0 12) = true ∧ (kx_inb ((w_a w 1 0 12 (x5).toNatClampNeg) + x7) (w_n w 1 0 16) = true ∧ (kx_inb (x2 + x7) (w_n w c1 o1 k1) = true ∧ (if ¬ w_a w 1 0 16 (((w_a w 1 0 12 (x5).toNatClampNeg) + x7)).toNatClampNeg = w_a w c1 o1 k1 ((x2 + x7)).toNatClampNeg then zb_X2_name_p122 E L Q c1 o1 k1 x2 x3 x4 x5 x7 0 w else zb_X2_name_p122 E L Q c1 o1 k1 x2 x3 x4 x5 x7 1 w))))))
theorem zt_X2_name_p82 {E : zE} {L : Nat} {Q : kx_Rs → wS → Prop} {c1 o1 k1 : Nat} {x2 : Int32} {x3 : Int32} {x4 : Int32} {x5 : Int32} {x6 : Int32} {x7 : Int32} {w : wS} (hL : 60 ≤ L) (ho1 : w_own w wG E.2.1 1 c1 o1 k1) (h : zb_X2_name_p82 E L Q c1 o1 k1 x2 x3 x4 x5 x6 x7 w) : kzE E L kt_M244 82 [(0, .ref (w_adr E.2.1 1 0)), (1, .ref (w_aa wG E.2.1 w c1 o1 k1)), (2, .int x2), (3, .int x3), (4, .int x4), (5, .int x5), (6, .int x6), (7, .int x7)] [] w Q := by
  unfold zb_X2_name_p82 at h
  refine kz_iload (M := kt_M244) kX2_name_c5.2.2.2.2.2.2.2.1 rfl ?_
  refine kz_if_eq (M := kt_M244) kX2_name_c6.1 (t := 130) rfl h (fun h => ?_) (fun h => ?_)
  · skip
    exact kz_weak [(0, .ref (w_adr E.2.1 1 0)), (1, .ref (w_aa wG E.2.1 w c1 o1 k1)), (2, .int x2), (3, .int x3), (4, .int x4), (5, .int x5), (6, .int x6)] ⟨rfl, ⟨rfl, ⟨rfl, ⟨rfl, ⟨rfl, ⟨rfl, ⟨rfl, trivial⟩⟩⟩⟩⟩⟩⟩ rfl (zt_X2_name_p130 hL ho1 h)
  · skip
    refine kz_iload (M := kt_M244) kX2_name_c6.2.1 rfl ?_
    refine kz_iload_n (M := kt_M244) kX2_name_c6.2.2.1 rfl ?_
    refine kz_icmp_ge (M := kt_M244) kX2_name_c6.2.2.2.1 (t := 130) rfl h (fun h => ?_) (fun h => ?_)
    · skip
      exact kz_weak [(0, .ref (w_adr E.2.1 1 0)), (1, .ref (w_aa wG E.2.1 w c1 o1 k1)), (2, .int x2), (3, .int x3), (4, .int x4), (5, .int x5), (6, .int x6)] ⟨rfl, ⟨rfl, ⟨rfl, ⟨rfl, ⟨rfl, ⟨rfl, ⟨rfl, trivial⟩⟩⟩⟩⟩⟩⟩ rfl (zt_X2_name_p130 hL ho1 h)
    · skip
      refine kz_aload_n (M := kt_M244) kX2_name_c6.2.2.2.2.1 rfl ?_
      refine kz_gfc (M := kt_M244) (x := 1272) (c := 1) (o := 0) kX2_name_c6.2.2.2.2.2.1 wf_X2_51 (.inl rfl) ?_
      refine kz_aload_n (M := kt_M244) kX2_name_c6.2.2.2.2.2.2.1 rfl ?_
      refine kz_gfc (M := kt_M244) (x := 1268) (c := 1) (o := 0) kX2_name_c6.2.2.2.2.2.2.2.1 wf_X2_39 (.inl rfl) ?_
      refine kz_iload (M := kt_M244) kX2_name_c7.1 rfl ?_
      refine kz_iald (M := kt_M244) (c := 1) (o := 0) (k := 12) (a := (E.2.1 1268)) kX2_name_c7.2.1 ow_1_0_12 oa_1_0_12 ot_0 h (fun h => ?_)
      refine kz_iload (M := kt_M244) kX2_name_c7.2.2.1 rfl ?_
      refine kz_iadd (M := kt_M244) kX2_name_c7.2.2.2.1 ?_
      refine kz_bald (M := kt_M244) (c := 1) (o := 0) (k := 16) (a := (E.2.1 1272)) kX2_name_c7.2.2.2.2.1 ow_1_0_16 oa_1_0_16 ot_1 h (fun h => ?_)
      refine kz_aload_n (M := kt_M244) kX2_name_c7.2.2.2.2.2.1 rfl ?_
      refine kz_iload_n (M := kt_M244) kX2_name_c7.2.2.2.2.2.2.1 rfl ?_
      refine kz_iload (M := kt_M244) kX2_name_c7.2.2.2.2.2.2.2.1 rfl ?_
      refine kz_iadd (M := kt_M244) kX2_name_c8.1 ?_
      refine kz_bald (M := kt_M244) (c := c1) (o := o1) (k := k1) (a := (w_aa wG E.2.1 w c1 o1 k1)) kX2_name_c8.2.1 ho1 rfl ot_1 h (fun h => ?_)
      refine kz_icmp_ne (M := kt_M244) kX2_name_c8.2.2.1 (t := 121) rfl h (fun h => ?_) (fun h => ?_)
      · skip
        refine kz_ic (M := kt_M244) 0 kX2_name_c8.2.2.2.2.2.1 rfl ?_
        exact kz_weak [(0, .ref (w_adr E.2.1 1 0)), (1, .ref (w_aa wG E.2.1 w c1 o1 k1)), (2, .int x2), (3, .int x3), (4, .int x4), (5, .int x5), (7, .int x7)] ⟨rfl, ⟨rfl, ⟨rfl, ⟨rfl, ⟨rfl, ⟨rfl, ⟨rfl, trivial⟩⟩⟩⟩⟩⟩⟩ rfl (zt_X2_name_p122 hL ho1 h)
      · skip
        refine kz_ic (M := kt_M244) 1 kX2_name_c8.2.2.2.1 rfl ?_
        refine kz_goto (M := kt_M244) kX2_name_c8.2.2.2.2.1 (t := 122) rfl ?_
        exact kz_weak [(0, .ref (w_adr E.2.1 1 0)), (1, .ref (w_aa wG E.2.1 w c1 o1 k1)), (2, .int x2), (3, .int x3), (4, .int x4), (5, .int x5), (7, .int x7)] ⟨rfl, ⟨rfl, ⟨rfl, ⟨rfl, ⟨rfl, ⟨rfl, ⟨rfl, trivial⟩⟩⟩⟩⟩⟩⟩ rfl (zt_X2_name_p122 hL ho1 h)
def zb_X2_name_p77 (E : zE) (L : Nat) (Q : kx_Rs → wS → Prop) (c1 o1 k1 : Nat) (x2 : Int32) (x3 : Int32) (x4 : Int32) (x5 : Int32) (y0 : Int32) (w : wS) : Prop := zL_X2_name_p82 E L Q c1 o1 k1 x2 x3 x4 x5 y0 0 w
theorem zt_X2_name_p77 {E : zE} {L : Nat} {Q : kx_Rs → wS → Prop} {c1 o1 k1 : Nat} {x2 : Int32} {x3 : Int32} {x4 : Int32} {x5 : Int32} {y0 : Int32} {w : wS} (hL : 60 ≤ L) (ho1 : w_own w wG E.2.1 1 c1 o1 k1) (h : zb_X2_name_p77 E L Q c1 o1 k1 x2 x3 x4 x5 y0 w) : kzE E L kt_M244 77 [(0, .ref (w_adr E.2.1 1 0)), (1, .ref (w_aa wG E.2.1 w c1 o1 k1)), (2, .int x2), (3, .int x3), (4, .int x4), (5, .int x5)] [.int y0] w Q := by
  unfold zb_X2_name_p77 at h
  refine kz_sti (M := kt_M244) [(0, .ref (w_adr E.2.1 1 0)), (1, .ref (w_aa wG E.2.1 w c1 o1 k1)), (2, .int x2), (3, .int x3), (4, .int x4), (5, .int x5)] kX2_name_c5.2.2.2.2.1 (Nat.le_of_ble_eq_true rfl) ⟨⟨rfl, rfl, .inl rfl⟩, ⟨⟨rfl, rfl, .inl rfl⟩, ⟨⟨rfl, rfl, .inl rfl⟩, ⟨⟨rfl, rfl, .inl rfl⟩, ⟨⟨rfl, rfl, .inl rfl⟩, ⟨⟨rfl, rfl, .inr rfl⟩, trivial⟩⟩⟩⟩⟩⟩ rfl ?_
  refine kz_ic (M := kt_M244) 0 kX2_name_c5.2.2.2.2.2.1 rfl ?_
  refine kz_sti (M := kt_M244) [(0, .ref (w_adr E.2.1 1 0)), (1, .ref (w_aa wG E.2.1 w c1 o1 k1)), (2, .int x2), (3, .int x3), (4, .int x4), (5, .int x5), (6, .int y0)] kX2_name_c5.2.2.2.2.2.2.1 (Nat.le_of_ble_eq_true rfl) ⟨⟨rfl, rfl, .inl rfl⟩, ⟨⟨rfl, rfl, .inl rfl⟩, ⟨⟨rfl, rfl, .inl rfl⟩, ⟨⟨rfl, rfl, .inl rfl⟩, ⟨⟨rfl, rfl, .inl rfl⟩, ⟨⟨rfl, rfl, .inl rfl⟩, ⟨⟨rfl, rfl, .inr rfl⟩, trivial⟩⟩⟩⟩⟩⟩⟩ rfl ?_
  exact kz_weak [(0, .ref (w_adr E.2.1 1 0)), (1, .ref (w_aa wG E.2.1 w c1 o1 k1)), (2, .int x2), (3, .int x3), (4, .int x4), (5, .int x5), (6, .int y0), (7, .int 0)] ⟨rfl, ⟨rfl, ⟨rfl, ⟨rfl, ⟨rfl, ⟨rfl, ⟨rfl, ⟨rfl, trivial⟩⟩⟩⟩⟩⟩⟩⟩ rfl h
def zb_X2_name_p55 (E : zE) (L : Nat) (Q : kx_Rs → wS → Prop) (c1 o1 k1 : Nat) (x2 : Int32) (x3 : Int32) (x4 : Int32) (x5 : Int32) (w : wS) : Prop := (if x5 = (-1) then (kx_inb (w_i w 1 0 17) (w_n w 1 0 12) = true ∧ (kx_inb (w_i w 1 0 17) (w_n w 1 0 13) = true ∧ (kx_inb x4 (w_n w 1 0 15) = true ∧ (kx_inb (w_i w 1 0 17) (w_n w 1 0 14) = true ∧ (kx_inb x4 (w_n w 1 0 15) = true ∧ (((¬ (x2) < 0 ∧ ¬ (w_i w 1 0 18) < 0 ∧ ¬ (x3) < 0) ∧ (x2).toNatClampNeg + (x3).toNatClampNeg ≤ w_n (ws_a (ws_a (ws_a (ws_a w 1 0 12 (w_i w 1 0 17).toNatClampNeg (w_i w 1 0 18)) 1 0 13 (w_i w 1 0 17).toNatClampNeg x3) 1 0 14 (w_i w 1 0 17).toNatClampNeg (w_a w 1 0 15 (x4).toNatClampNeg)) 1 0 15 (x4).toNatClampNeg (w_i w 1 0 17)) c1 o1 k1 ∧ (w_i w 1 0 18).toNatClampNeg + (x3).toNatClampNeg ≤ w_n (ws_a (ws_a (ws_a (ws_a w 1 0 12 (w_i w 1 0 17).toNatClampNeg (w_i w 1 0 18)) 1 0 13 (w_i w 1 0 17).toNatClampNeg x3) 1 0 14 (w_i w 1 0 17).toNatClampNeg (w_a w 1 0 15 (x4).toNatClampNeg)) 1 0 15 (x4).toNatClampNeg (w_i w 1 0 17)) 1 0 16 ∧ ∀ i, i < (x3).toNatClampNeg → fits .byte (.int (w_a (ws_a (ws_a (ws_a (ws_a w 1 0 12 (w_i w 1 0 17).toNatClampNeg (w_i w 1 0 18)) 1 0 13 (w_i w 1 0 17).toNatClampNeg x3) 1 0 14 (w_i w 1 0 17).toNatClampNeg (w_a w 1 0 15 (x4).toNatClampNeg)) 1 0 15 (x4).toNatClampNeg (w_i w 1 0 17)) c1 o1 k1 ((x2).toNatClampNeg + i))) = true) ∧ Q (.inl (some (.int (w_i (ws_A (ws_a (ws_a (ws_a (ws_a w 1 0 12 (w_i w 1 0 17).toNatClampNeg (w_i w 1 0 18)) 1 0 13 (w_i w 1 0 17).toNatClampNeg x3) 1 0 14 (w_i w 1 0 17).toNatClampNeg (w_a w 1 0 15 (x4).toNatClampNeg)) 1 0 15 (x4).toNatClampNeg (w_i w 1 0 17)) 1 0 16 (va_cpy (w_a (ws_a (ws_a (ws_a (ws_a w 1 0 12 (w_i w 1 0 17).toNatClampNeg (w_i w 1 0 18)) 1 0 13 (w_i w 1 0 17).toNatClampNeg x3) 1 0 14 (w_i w 1 0 17).toNatClampNeg (w_a w 1 0 15 (x4).toNatClampNeg)) 1 0 15 (x4).toNatClampNeg (w_i w 1 0 17)) c1 o1 k1) (w_a (ws_a (ws_a (ws_a (ws_a w 1 0 12 (w_i w 1 0 17).toNatClampNeg (w_i w 1 0 18)) 1 0 13 (w_i w 1 0 17).toNatClampNeg x3) 1 0 14 (w_i w 1 0 17).toNatClampNeg (w_a w 1 0 15 (x4).toNatClampNeg)) 1 0 15 (x4).toNatClampNeg (w_i w 1 0 17)) 1 0 16) (x2).toNatClampNeg (w_i w 1 0 18).toNatClampNeg (x3).toNatClampNeg)) 1 0 17)))) (ws_i (ws_i (ws_A (ws_a (ws_a (ws_a (ws_a w 1 0 12 (w_i w 1 0 17).toNatClampNeg (w_i w 1 0 18)) 1 0 13 (w_i w 1 0 17).toNatClampNeg x3) 1 0 14 (w_i w 1 0 17).toNatClampNeg (w_a w 1 0 15 (x4).toNatClampNeg)) 1 0 15 (x4).toNatClampNeg (w_i w 1 0 17)) 1 0 16 (va_cpy (w_a (ws_a (ws_a (ws_a (ws_a w 1 0 12 (w_i w 1 0 17).toNatClampNeg (w_i w 1 0 18)) 1 0 13 (w_i w 1 0 17).toNatClampNeg x3) 1 0 14 (w_i w 1 0 17).toNatClampNeg (w_a w 1 0 15 (x4).toNatClampNeg)) 1 0 15 (x4).toNatClampNeg (w_i w 1 0 17)) c1 o1 k1) (w_a (ws_a (ws_a (ws_a (ws_a w 1 0 12 (w_i w 1 0 17).toNatClampNeg (w_i w 1 0 18)) 1 0 13 (w_i w 1 0 17).toNatClampNeg x3) 1 0 14 (w_i w 1 0 17).toNatClampNeg (w_a w 1 0 15 (x4).toNatClampNeg)) 1 0 15 (x4).toNatClampNeg (w_i w 1 0 17)) 1 0 16) (x2).toNatClampNeg (w_i w 1 0 18).toNatClampNeg (x3).toNatClampNeg)) 1 0 18 ((w_i (ws_A (ws_a (ws_a (ws_a (ws_a w 1 0 12 (w_i w 1 0 17).toNatClampNeg (w_i w 1 0 18)) 1 0 13 (w_i w 1 0 17).toNatClampNeg x3) 1 0 14 (w_i w 1 0 17).toNatClampNeg (w_a w 1 0 15 (x4).toNatClampNeg)) 1 0 15 (x4).toNatClampNeg (w_i w 1 0 17)) 1 0 16 (va_cpy (w_a (ws_a (ws_a (ws_a (ws_a w 1 0 12 (w_i w 1 0 17).toNatClampNeg (w_i w 1 0 18)) 1 0 13 (w_i w 1 0 17).toNatClampNeg x3) 1 0 14 (w_i w 1 0 17).toNatClampNeg (w_a w 1 0 15 (x4).toNatClampNeg)) 1 0 15 (x4).toNatClampNeg (w_i w 1 0 17)) c1 o1 k1) (w_a (ws_a (ws_a (ws_a (ws_a w 1 0 12 (w_i w 1 0 17).toNatClampNeg (w_i w 1 0 18)) 1 0 13 (w_i w 1 0 17).toNatClampNeg x3) 1 0 14 (w_i w 1 0 17).toNatClampNeg (w_a w 1 0 15 (x4).toNatClampNeg)) 1 0 15 (x4).toNatClampNeg (w_i w 1 0 17)) 1 0 16) (x2).toNatClampNeg (w_i w 1 0 18).toNatClampNeg (x3).toNatClampNeg)) 1 0 18) + x3)) 1 0 17 ((w_i (ws_A (ws_a (ws_a (ws_a (ws_a w 1 0 12 (w_i w 1 0 17).toNatClampNeg (w_i w 1 0 18)) 1 0 13 (w_i w 1 0 17).toNatClampNeg x3) 1 0 14 (w_i w 1 0 17).toNatClampNeg (w_a w 1 0 15 (x4).toNatClampNeg)) 1 0 15 (x4).toNatClampNeg (w_i w 1 0 17)) 1 0 16 (va_cpy (w_a (ws_a (ws_a (ws_a (ws_a w 1 0 12 (w_i w 1 0 17).toNatClampNeg (w_i w 1 0 18)) 1 0 13 (w_i w 1 0 17).toNatClampNeg x3) 1 0 14 (w_i w 1 0 17).toNatClampNeg (w_a w 1 0 15 (x4).toNatClampNeg)) 1 0 15 (x4).toNatClampNeg (w_i w 1 0 17)) c1 o1 k1) (w_a (ws_a (ws_a (ws_a (ws_a w 1 0 12 (w_i w 1 0 17).toNatClampNeg (w_i w 1 0 18)) 1 0 13 (w_i w 1 0 17).toNatClampNeg x3) 1 0 14 (w_i w 1 0 17).toNatClampNeg (w_a w 1 0 15 (x4).toNatClampNeg)) 1 0 15 (x4).toNatClampNeg (w_i w 1 0 17)) 1 0 16) (x2).toNatClampNeg (w_i w 1 0 18).toNatClampNeg (x3).toNatClampNeg)) 1 0 17) + 1)))))))) else (kx_inb x5 (w_n w 1 0 13) = true ∧ (if ¬ w_a w 1 0 13 (x5).toNatClampNeg = x3 then zb_X2_name_p77 E L Q c1 o1 k1 x2 x3 x4 x5 0 w else zb_X2_name_p77 E L Q c1 o1 k1 x2 x3 x4 x5 1 w)))
theorem zt_X2_name_p55 {E : zE} {L : Nat} {Q : kx_Rs → wS → Prop} {c1 o1 k1 : Nat} {x2 : Int32} {x3 : Int32} {x4 : Int32} {x5 : Int32} {w : wS} (hL : 60 ≤ L) (ho1 : w_own w wG E.2.1 1 c1 o1 k1) (h : zb_X2_name_p55 E L Q c1 o1 k1 x2 x3 x4 x5 w) : kzE E L kt_M244 55 [(0, .ref (w_adr E.2.1 1 0)), (1, .ref (w_aa wG E.2.1 w c1 o1 k1)), (2, .int x2), (3, .int x3), (4, .int x4), (5, .int x5)] [] w Q := by
  unfold zb_X2_name_p55 at h
  refine kz_iload (M := kt_M244) kX2_name_c4.1 rfl ?_
  refine kz_ic (M := kt_M244) (-1) kX2_name_c4.2.1 rfl ?_
  refine kz_icmp_eq (M := kt_M244) kX2_name_c4.2.2.1 (t := 150) rfl h (fun h => ?_) (fun h => ?_)
  · skip
    refine kz_aload_n (M := kt_M244) kX2_name_c10.2.2.2.1 rfl ?_
    refine kz_gfc (M := kt_M244) (x := 1268) (c := 1) (o := 0) kX2_name_c10.2.2.2.2.1 wf_X2_39 (.inl rfl) ?_
    refine kz_aload_n (M := kt_M244) kX2_name_c10.2.2.2.2.2.1 rfl ?_
    refine kz_gfi (M := kt_M244) (c := 1) (o := 0) kX2_name_c10.2.2.2.2.2.2.1 wf_X2_68 (.inl rfl) ?_
    refine kz_aload_n (M := kt_M244) kX2_name_c10.2.2.2.2.2.2.2.1 rfl ?_
    refine kz_gfi (M := kt_M244) (c := 1) (o := 0) kX2_name_c11.1 wf_X2_71 (.inl rfl) ?_
    refine kz_iast (M := kt_M244) (c := 1) (o := 0) (k := 12) (a := (E.2.1 1268)) kX2_name_c11.2.1 ow_1_0_12 oa_1_0_12 ot_0 h (fun h => ?_)
    refine kz_aload_n (M := kt_M244) kX2_name_c11.2.2.1 rfl ?_
    refine kz_gfc (M := kt_M244) (x := 1269) (c := 1) (o := 0) kX2_name_c11.2.2.2.1 wf_X2_42 (.inl rfl) ?_
    refine kz_aload_n (M := kt_M244) kX2_name_c11.2.2.2.2.1 rfl ?_
    refine kz_gfiR (M := kt_M244) (c := 1) (o := 0) (w_i w 1 0 17) kX2_name_c11.2.2.2.2.2.1 wf_X2_68 (.inl rfl) rd_i_a ?_
    refine kz_iload_n (M := kt_M244) kX2_name_c11.2.2.2.2.2.2.1 rfl ?_
    refine kz_iastR (M := kt_M244) (n := w_n w 1 0 13) (c := 1) (o := 0) (k := 13) (a := (E.2.1 1269)) kX2_name_c11.2.2.2.2.2.2.2.1 ow_1_0_13 oa_1_0_13 ot_0 rd_n_a h (fun h => ?_)
    refine kz_aload_n (M := kt_M244) kX2_name_c12.1 rfl ?_
    refine kz_gfc (M := kt_M244) (x := 1270) (c := 1) (o := 0) kX2_name_c12.2.1 wf_X2_45 (.inl rfl) ?_
    refine kz_aload_n (M := kt_M244) kX2_name_c12.2.2.1 rfl ?_
    refine kz_gfiR (M := kt_M244) (c := 1) (o := 0) (w_i w 1 0 17) kX2_name_c12.2.2.2.1 wf_X2_68 (.inl rfl) (rd_i_a.trans rd_i_a) ?_
    refine kz_aload_n (M := kt_M244) kX2_name_c12.2.2.2.2.1 rfl ?_
    refine kz_gfc (M := kt_M244) (x := 1271) (c := 1) (o := 0) kX2_name_c12.2.2.2.2.2.1 wf_X2_48 (.inl rfl) ?_
    refine kz_iload (M := kt_M244) kX2_name_c12.2.2.2.2.2.2.1 rfl ?_
    refine kz_ialdR (M := kt_M244) (n := w_n w 1 0 15) (c := 1) (o := 0) (k := 15) (a := (E.2.1 1271)) (w_a w 1 0 15 (x4).toNatClampNeg) kX2_name_c12.2.2.2.2.2.2.2.1 ow_1_0_15 oa_1_0_15 ot_0 (rd_n_a.trans rd_n_a) ((rd_a_a rfl).trans (rd_a_a rfl)) h (fun h => ?_)
    refine kz_iastR (M := kt_M244) (n := w_n w 1 0 14) (c := 1) (o := 0) (k := 14) (a := (E.2.1 1270)) kX2_name_c13.1 ow_1_0_14 oa_1_0_14 ot_0 (rd_n_a.trans rd_n_a) h (fun h => ?_)
    refine kz_aload_n (M := kt_M244) kX2_name_c13.2.1 rfl ?_
    refine kz_gfc (M := kt_M244) (x := 1271) (c := 1) (o := 0) kX2_name_c13.2.2.1 wf_X2_48 (.inl rfl) ?_
    refine kz_iload (M := kt_M244) kX2_name_c13.2.2.2.1 rfl ?_
    refine kz_aload_n (M := kt_M244) kX2_name_c13.2.2.2.2.1 rfl ?_
    refine kz_gfiR (M := kt_M244) (c := 1) (o := 0) (w_i w 1 0 17) kX2_name_c13.2.2.2.2.2.1 wf_X2_68 (.inl rfl) (rd_i_a.trans (rd_i_a.trans rd_i_a)) ?_
    refine kz_iastR (M := kt_M244) (n := w_n w 1 0 15) (c := 1) (o := 0) (k := 15) (a := (E.2.1 1271)) kX2_name_c13.2.2.2.2.2.2.1 ow_1_0_15 oa_1_0_15 ot_0 (rd_n_a.trans (rd_n_a.trans rd_n_a)) h (fun h => ?_)
    refine kz_aload_n (M := kt_M244) kX2_name_c13.2.2.2.2.2.2.2.1 rfl ?_
    refine kz_iload_n (M := kt_M244) kX2_name_c14.1 rfl ?_
    refine kz_aload_n (M := kt_M244) kX2_name_c14.2.1 rfl ?_
    refine kz_gfc (M := kt_M244) (x := 1272) (c := 1) (o := 0) kX2_name_c14.2.2.1 wf_X2_51 (.inl rfl) ?_
    refine kz_aload_n (M := kt_M244) kX2_name_c14.2.2.2.1 rfl ?_
    refine kz_gfiR (M := kt_M244) (c := 1) (o := 0) (w_i w 1 0 18) kX2_name_c14.2.2.2.2.1 wf_X2_71 (.inl rfl) (rd_i_a.trans (rd_i_a.trans (rd_i_a.trans rd_i_a))) ?_
    refine kz_iload_n (M := kt_M244) kX2_name_c14.2.2.2.2.2.1 rfl ?_
    refine kz_cpyi (M := kt_M244) (τ := 1) (ty := .byte) (c0 := c1) (o0 := o1) (k0 := k1) (c := 1) (o := 0) (k := 16) (a0 := (w_aa wG E.2.1 (ws_a (ws_a (ws_a (ws_a w 1 0 12 (w_i w 1 0 17).toNatClampNeg (w_i w 1 0 18)) 1 0 13 (w_i w 1 0 17).toNatClampNeg x3) 1 0 14 (w_i w 1 0 17).toNatClampNeg (w_a w 1 0 15 (x4).toNatClampNeg)) 1 0 15 (x4).toNatClampNeg (w_i w 1 0 17)) c1 o1 k1)) (a := (E.2.1 1272)) kX2_name_c14.2.2.2.2.2.2.1 (zac_X2_74) (by decide) rfl rfl ho1 rfl ow_1_0_16 oa_1_0_16 (Nat.le_trans (by simp [kx_cat, w_cat, zac_w, z_ci, z_cr, z_cl, z_cn]) hL) h (fun h => ?_)
    refine kz_aload_n (M := kt_M244) kX2_name_c14.2.2.2.2.2.2.2.1 rfl ?_
    refine kz_dup (M := kt_M244) kX2_name_c15.1 rfl ?_
    refine kz_gfi (M := kt_M244) (c := 1) (o := 0) kX2_name_c15.2.1 wf_X2_71 (.inl rfl) ?_
    refine kz_iload_n (M := kt_M244) kX2_name_c15.2.2.1 rfl ?_
    refine kz_iadd (M := kt_M244) kX2_name_c15.2.2.2.1 ?_
    refine kz_pfi (M := kt_M244) (c := 1) (o := 0) kX2_name_c15.2.2.2.2.1 wq_X2_71 (.inl rfl) ?_
    refine kz_aload_n (M := kt_M244) kX2_name_c15.2.2.2.2.2.1 rfl ?_
    refine kz_dup (M := kt_M244) kX2_name_c15.2.2.2.2.2.2.1 rfl ?_
    refine kz_gfiR (M := kt_M244) (c := 1) (o := 0) (w_i (ws_A (ws_a (ws_a (ws_a (ws_a w 1 0 12 (w_i w 1 0 17).toNatClampNeg (w_i w 1 0 18)) 1 0 13 (w_i w 1 0 17).toNatClampNeg x3) 1 0 14 (w_i w 1 0 17).toNatClampNeg (w_a w 1 0 15 (x4).toNatClampNeg)) 1 0 15 (x4).toNatClampNeg (w_i w 1 0 17)) 1 0 16 (va_cpy (w_a (ws_a (ws_a (ws_a (ws_a w 1 0 12 (w_i w 1 0 17).toNatClampNeg (w_i w 1 0 18)) 1 0 13 (w_i w 1 0 17).toNatClampNeg x3) 1 0 14 (w_i w 1 0 17).toNatClampNeg (w_a w 1 0 15 (x4).toNatClampNeg)) 1 0 15 (x4).toNatClampNeg (w_i w 1 0 17)) c1 o1 k1) (w_a (ws_a (ws_a (ws_a (ws_a w 1 0 12 (w_i w 1 0 17).toNatClampNeg (w_i w 1 0 18)) 1 0 13 (w_i w 1 0 17).toNatClampNeg x3) 1 0 14 (w_i w 1 0 17).toNatClampNeg (w_a w 1 0 15 (x4).toNatClampNeg)) 1 0 15 (x4).toNatClampNeg (w_i w 1 0 17)) 1 0 16) (x2).toNatClampNeg (w_i w 1 0 18).toNatClampNeg (x3).toNatClampNeg)) 1 0 17) kX2_name_c15.2.2.2.2.2.2.2.1 wf_X2_68 (.inl rfl) (rd_i_i rfl) ?_
    refine kz_dup_x1 (M := kt_M244) kX2_name_c16.1 ⟨rfl, rfl⟩ ?_
    refine kz_ic (M := kt_M244) 1 kX2_name_c16.2.1 rfl ?_
    refine kz_iadd (M := kt_M244) kX2_name_c16.2.2.1 ?_
    refine kz_pfi (M := kt_M244) (c := 1) (o := 0) kX2_name_c16.2.2.2.1 wq_X2_68 (.inl rfl) ?_
    exact kz_iret (M := kt_M244) kX2_name_c16.2.2.2.2.1 rfl rfl h
  · skip
    refine kz_aload_n (M := kt_M244) kX2_name_c4.2.2.2.1 rfl ?_
    refine kz_gfc (M := kt_M244) (x := 1269) (c := 1) (o := 0) kX2_name_c4.2.2.2.2.1 wf_X2_42 (.inl rfl) ?_
    refine kz_iload (M := kt_M244) kX2_name_c4.2.2.2.2.2.1 rfl ?_
    refine kz_iald (M := kt_M244) (c := 1) (o := 0) (k := 13) (a := (E.2.1 1269)) kX2_name_c4.2.2.2.2.2.2.1 ow_1_0_13 oa_1_0_13 ot_0 h (fun h => ?_)
    refine kz_iload_n (M := kt_M244) kX2_name_c4.2.2.2.2.2.2.2.1 rfl ?_
    refine kz_icmp_ne (M := kt_M244) kX2_name_c5.1 (t := 76) rfl h (fun h => ?_) (fun h => ?_)
    · skip
      refine kz_ic (M := kt_M244) 0 kX2_name_c5.2.2.2.1 rfl ?_
      exact kz_weak [(0, .ref (w_adr E.2.1 1 0)), (1, .ref (w_aa wG E.2.1 w c1 o1 k1)), (2, .int x2), (3, .int x3), (4, .int x4), (5, .int x5)] ⟨rfl, ⟨rfl, ⟨rfl, ⟨rfl, ⟨rfl, ⟨rfl, trivial⟩⟩⟩⟩⟩⟩ rfl (zt_X2_name_p77 hL ho1 h)
    · skip
      refine kz_ic (M := kt_M244) 1 kX2_name_c5.2.1 rfl ?_
      refine kz_goto (M := kt_M244) kX2_name_c5.2.2.1 (t := 77) rfl ?_
      exact kz_weak [(0, .ref (w_adr E.2.1 1 0)), (1, .ref (w_aa wG E.2.1 w c1 o1 k1)), (2, .int x2), (3, .int x3), (4, .int x4), (5, .int x5)] ⟨rfl, ⟨rfl, ⟨rfl, ⟨rfl, ⟨rfl, ⟨rfl, trivial⟩⟩⟩⟩⟩⟩ rfl (zt_X2_name_p77 hL ho1 h)
def zb_X2_name_p6 (E : zE) (L : Nat) (Q : kx_Rs → wS → Prop) (c1 o1 k1 : Nat) (x2 : Int32) (x3 : Int32) (x4 : Int32) (x5 : Int32) (w : wS) : Prop := (if x3 ≤ x5 then (kx_inb ((x4 ^^^ (((x4).toUInt32 >>> ((8 : Int32).toUInt32 &&& Int32.toUInt32 31)).toInt32)) &&& 255) (w_n w 1 0 15) = true ∧ zL_X2_name_p55 E L Q c1 o1 k1 x2 x3 ((x4 ^^^ (((x4).toUInt32 >>> ((8 : Int32).toUInt32 &&& Int32.toUInt32 31)).toInt32)) &&& 255) (w_a w 1 0 15 (((x4 ^^^ (((x4).toUInt32 >>> ((8 : Int32).toUInt32 &&& Int32.toUInt32 31)).toInt32)) &&& 255)).toNatClampNeg) w) else (kx_inb (x2 + x5) (w_n w c1 o1 k1) = true ∧ zL_X2_name_p6 E L Q c1 o1 k1 x2 x3 ((x4 * 31) + (w_a w c1 o1 k1 ((x2 + x5)).toNatClampNeg)) (x5 + 1) w))
theorem zt_X2_name_p6 {E : zE} {L : Nat} {Q : kx_Rs → wS → Prop} {c1 o1 k1 : Nat} {x2 : Int32} {x3 : Int32} {x4 : Int32} {x5 : Int32} {w : wS} (hL : 60 ≤ L) (ho1 : w_own w wG E.2.1 1 c1 o1 k1) (h : zb_X2_name_p6 E L Q c1 o1 k1 x2 x3 x4 x5 w) : kzE E L kt_M244 6 [(0, .ref (w_adr E.2.1 1 0)), (1, .ref (w_aa wG E.2.1 w c1 o1 k1)), (2, .int x2), (3, .int x3), (4, .int x4), (5, .int x5)] [] w Q := by
  unfold zb_X2_name_p6 at h
  refine kz_iload (M := kt_M244) kX2_name_c0.2.2.2.2.1 rfl ?_
  refine kz_iload_n (M := kt_M244) kX2_name_c0.2.2.2.2.2.1 rfl ?_
  refine kz_icmp_ge (M := kt_M244) kX2_name_c0.2.2.2.2.2.2.1 (t := 32) rfl h (fun h => ?_) (fun h => ?_)
  · skip
    refine kz_iload (M := kt_M244) kX2_name_c2.2.2.2.1 rfl ?_
    refine kz_iload (M := kt_M244) kX2_name_c2.2.2.2.2.1 rfl ?_
    refine kz_bi (M := kt_M244) 8 kX2_name_c2.2.2.2.2.2.1 rfl ?_
    refine kz_iushr (M := kt_M244) kX2_name_c2.2.2.2.2.2.2.1 ?_
    refine kz_ixor (M := kt_M244) kX2_name_c2.2.2.2.2.2.2.2.1 ?_
    refine kz_si (M := kt_M244) 255 kX2_name_c3.1 rfl ?_
    refine kz_iand (M := kt_M244) kX2_name_c3.2.1 ?_
    refine kz_sti (M := kt_M244) [(0, .ref (w_adr E.2.1 1 0)), (1, .ref (w_aa wG E.2.1 w c1 o1 k1)), (2, .int x2), (3, .int x3)] kX2_name_c3.2.2.1 (Nat.le_of_ble_eq_true rfl) ⟨⟨rfl, rfl, .inl rfl⟩, ⟨⟨rfl, rfl, .inl rfl⟩, ⟨⟨rfl, rfl, .inl rfl⟩, ⟨⟨rfl, rfl, .inr rfl⟩, trivial⟩⟩⟩⟩ rfl ?_
    refine kz_aload_n (M := kt_M244) kX2_name_c3.2.2.2.1 rfl ?_
    refine kz_gfc (M := kt_M244) (x := 1271) (c := 1) (o := 0) kX2_name_c3.2.2.2.2.1 wf_X2_48 (.inl rfl) ?_
    refine kz_iload (M := kt_M244) kX2_name_c3.2.2.2.2.2.1 rfl ?_
    refine kz_iald (M := kt_M244) (c := 1) (o := 0) (k := 15) (a := (E.2.1 1271)) kX2_name_c3.2.2.2.2.2.2.1 ow_1_0_15 oa_1_0_15 ot_0 h (fun h => ?_)
    refine kz_sti (M := kt_M244) [(0, .ref (w_adr E.2.1 1 0)), (1, .ref (w_aa wG E.2.1 w c1 o1 k1)), (2, .int x2), (3, .int x3), (4, .int ((x4 ^^^ (((x4).toUInt32 >>> ((8 : Int32).toUInt32 &&& Int32.toUInt32 31)).toInt32)) &&& 255))] kX2_name_c3.2.2.2.2.2.2.2.1 (Nat.le_of_ble_eq_true rfl) ⟨⟨rfl, rfl, .inl rfl⟩, ⟨⟨rfl, rfl, .inl rfl⟩, ⟨⟨rfl, rfl, .inl rfl⟩, ⟨⟨rfl, rfl, .inl rfl⟩, ⟨⟨rfl, rfl, .inr rfl⟩, trivial⟩⟩⟩⟩⟩ rfl ?_
    exact kz_weak [(0, .ref (w_adr E.2.1 1 0)), (1, .ref (w_aa wG E.2.1 w c1 o1 k1)), (2, .int x2), (3, .int x3), (4, .int ((x4 ^^^ (((x4).toUInt32 >>> ((8 : Int32).toUInt32 &&& Int32.toUInt32 31)).toInt32)) &&& 255)), (5, .int (w_a w 1 0 15 (((x4 ^^^ (((x4).toUInt32 >>> ((8 : Int32).toUInt32 &&& Int32.toUInt32 31)).toInt32)) &&& 255)).toNatClampNeg))] ⟨rfl, ⟨rfl, ⟨rfl, ⟨rfl, ⟨rfl, ⟨rfl, trivial⟩⟩⟩⟩⟩⟩ rfl h
  · skip
    refine kz_iload (M := kt_M244) kX2_name_c0.2.2.2.2.2.2.2.1 rfl ?_
    refine kz_bi (M := kt_M244) 31 kX2_name_c1.1 rfl ?_
    refine kz_imul (M := kt_M244) kX2_name_c1.2.1 ?_
    refine kz_aload_n (M := kt_M244) kX2_name_c1.2.2.1 rfl ?_
    refine kz_iload_n (M := kt_M244) kX2_name_c1.2.2.2.1 rfl ?_
    refine kz_iload (M := kt_M244) kX2_name_c1.2.2.2.2.1 rfl ?_
    refine kz_iadd (M := kt_M244) kX2_name_c1.2.2.2.2.2.1 ?_
    refine kz_bald (M := kt_M244) (c := c1) (o := o1) (k := k1) (a := (w_aa wG E.2.1 w c1 o1 k1)) kX2_name_c1.2.2.2.2.2.2.1 ho1 rfl ot_1 h (fun h => ?_)
    refine kz_iadd (M := kt_M244) kX2_name_c1.2.2.2.2.2.2.2.1 ?_
    refine kz_sti (M := kt_M244) [(0, .ref (w_adr E.2.1 1 0)), (1, .ref (w_aa wG E.2.1 w c1 o1 k1)), (2, .int x2), (3, .int x3), (5, .int x5)] kX2_name_c2.1 (Nat.le_of_ble_eq_true rfl) ⟨⟨rfl, rfl, .inl rfl⟩, ⟨⟨rfl, rfl, .inl rfl⟩, ⟨⟨rfl, rfl, .inl rfl⟩, ⟨⟨rfl, rfl, .inr rfl⟩, ⟨⟨rfl, rfl, .inl rfl⟩, trivial⟩⟩⟩⟩⟩ rfl ?_
    refine kz_inc (M := kt_M244) [(0, .ref (w_adr E.2.1 1 0)), (1, .ref (w_aa wG E.2.1 w c1 o1 k1)), (2, .int x2), (3, .int x3), (4, .int ((x4 * 31) + (w_a w c1 o1 k1 ((x2 + x5)).toNatClampNeg)))] kX2_name_c2.2.1 rfl (Nat.le_of_ble_eq_true rfl) ⟨⟨rfl, rfl, .inl rfl⟩, ⟨⟨rfl, rfl, .inl rfl⟩, ⟨⟨rfl, rfl, .inl rfl⟩, ⟨⟨rfl, rfl, .inl rfl⟩, ⟨⟨rfl, rfl, .inr rfl⟩, trivial⟩⟩⟩⟩⟩ rfl ?_
    refine kz_goto (M := kt_M244) kX2_name_c2.2.2.1 (t := 6) rfl ?_
    exact kz_weak [(0, .ref (w_adr E.2.1 1 0)), (1, .ref (w_aa wG E.2.1 w c1 o1 k1)), (2, .int x2), (3, .int x3), (4, .int ((x4 * 31) + (w_a w c1 o1 k1 ((x2 + x5)).toNatClampNeg))), (5, .int (x5 + 1))] ⟨rfl, ⟨rfl, ⟨rfl, ⟨rfl, ⟨rfl, ⟨rfl, trivial⟩⟩⟩⟩⟩⟩ rfl h
def zb_X2_name_p0 (E : zE) (L : Nat) (Q : kx_Rs → wS → Prop) (c1 o1 k1 : Nat) (x2 : Int32) (x3 : Int32) (w : wS) : Prop := zL_X2_name_p6 E L Q c1 o1 k1 x2 x3 x3 0 w
theorem zt_X2_name_p0 {E : zE} {L : Nat} {Q : kx_Rs → wS → Prop} {c1 o1 k1 : Nat} {x2 : Int32} {x3 : Int32} {w : wS} (hL : 60 ≤ L) (ho1 : w_own w wG E.2.1 1 c1 o1 k1) (h : zb_X2_name_p0 E L Q c1 o1 k1 x2 x3 w) : kzE E L kt_M244 0 [(0, .ref (w_adr E.2.1 1 0)), (1, .ref (w_aa wG E.2.1 w c1 o1 k1)), (2, .int x2), (3, .int x3)] [] w Q := by
  unfold zb_X2_name_p0 at h
  refine kz_iload_n (M := kt_M244) kX2_name_c0.1 rfl ?_
  refine kz_sti (M := kt_M244) [(0, .ref (w_adr E.2.1 1 0)), (1, .ref (w_aa wG E.2.1 w c1 o1 k1)), (2, .int x2), (3, .int x3)] kX2_name_c0.2.1 (Nat.le_of_ble_eq_true rfl) ⟨⟨rfl, rfl, .inl rfl⟩, ⟨⟨rfl, rfl, .inl rfl⟩, ⟨⟨rfl, rfl, .inl rfl⟩, ⟨⟨rfl, rfl, .inr rfl⟩, trivial⟩⟩⟩⟩ rfl ?_
  refine kz_ic (M := kt_M244) 0 kX2_name_c0.2.2.1 rfl ?_
  refine kz_sti (M := kt_M244) [(0, .ref (w_adr E.2.1 1 0)), (1, .ref (w_aa wG E.2.1 w c1 o1 k1)), (2, .int x2), (3, .int x3), (4, .int x3)] kX2_name_c0.2.2.2.1 (Nat.le_of_ble_eq_true rfl) ⟨⟨rfl, rfl, .inl rfl⟩, ⟨⟨rfl, rfl, .inl rfl⟩, ⟨⟨rfl, rfl, .inl rfl⟩, ⟨⟨rfl, rfl, .inl rfl⟩, ⟨⟨rfl, rfl, .inr rfl⟩, trivial⟩⟩⟩⟩⟩ rfl ?_
  exact kz_weak [(0, .ref (w_adr E.2.1 1 0)), (1, .ref (w_aa wG E.2.1 w c1 o1 k1)), (2, .int x2), (3, .int x3), (4, .int x3), (5, .int 0)] ⟨rfl, ⟨rfl, ⟨rfl, ⟨rfl, ⟨rfl, ⟨rfl, trivial⟩⟩⟩⟩⟩⟩ rfl h
def zL_X2_cutLine_p42 (E : zE) (L : Nat) (Q : kx_Rs → wS → Prop) (x2 : Int32) (x3 : Int32) (x4 : Int32) (x5 : Int32) (x6 : Int32) (x7 : Int32) (w : wS) : Prop := kzE E L kt_M239 42 [(0, .ref (w_adr E.2.1 1 0)), (2, .int x2), (3, .int x3), (4, .int x4), (5, .int x5), (6, .int x6), (7, .int x7)] [] w Q
def zL_X2_cutLine_p9 (E : zE) (L : Nat) (Q : kx_Rs → wS → Prop) (x1 : Int32) (x2 : Int32) (x3 : Int32) (x4 : Int32) (x5 : Int32) (w : wS) : Prop := kzE E L kt_M239 9 [(0, .ref (w_adr E.2.1 1 0)), (1, .int x1), (2, .int x2), (3, .int x3), (4, .int x4), (5, .int x5)] [] w Q
def zb_X2_cutLine_p178 (E : zE) (L : Nat) (Q : kx_Rs → wS → Prop) (x3 : Int32) (y0 : Int32) (y1 : Int32) (w : wS) : Prop := (kx_inb y1 (w_n w 1 0 6) = true ∧ zw E (L - 24) kt_M236 [.ref (w_adr E.2.1 1 0), va_rf (some (E.1.1 7)), .int 0, .int 0, .int x3] (ws_a w 1 0 6 (y1).toNatClampNeg y0) (wk0 (fun w1 => wle (ws_a w 1 0 6 (y1).toNatClampNeg y0) w1 → Q (.inl none) (ws_i w1 1 0 8 ((w_i w1 1 0 8) + 1))) (fun e w => Q (.inr e) w)))
theorem zt_X2_cutLine_p178 {E : zE} {L : Nat} {Q : kx_Rs → wS → Prop} {x3 : Int32} {y0 : Int32} {y1 : Int32} {w : wS} (hL : 25 ≤ L) (h : zb_X2_cutLine_p178 E L Q x3 y0 y1 w) : kzE E L kt_M239 178 [(0, .ref (w_adr E.2.1 1 0)), (3, .int x3)] [.int y0, .int y1, .ref (E.2.1 1262)] w Q := by
  unfold zb_X2_cutLine_p178 at h
  refine kz_iast (M := kt_M239) (c := 1) (o := 0) (k := 6) (a := (E.2.1 1262)) kX2_cutLine_c11.2.2.2.2.2.2.1 ow_1_0_6 oa_1_0_6 ot_0 h (fun h => ?_)
  refine kz_aload_n (M := kt_M239) kX2_cutLine_c11.2.2.2.2.2.2.2.1 rfl ?_
  refine kz_getsE (M := kt_M239) (v := va_rf (some (E.1.1 7))) kX2_cutLine_c12.1 zs_X2_126 ?_
  refine kz_ic (M := kt_M239) 0 kX2_cutLine_c12.2.1 rfl ?_
  refine kz_ic (M := kt_M239) 0 kX2_cutLine_c12.2.2.1 rfl ?_
  refine kz_iload_n (M := kt_M239) kX2_cutLine_c12.2.2.2.1 rfl ?_
  refine kz_cv0 (M := kt_M239) (c := 1) (o := 0) (As := [va_rf (some (E.1.1 7)), .int 0, .int 0, .int x3]) (rest := []) kX2_cutLine_c12.2.2.2.2.1 wl_X2_118 wMv_236 rfl (.inl rfl) rfl (Nat.le_trans (Nat.le_of_ble_eq_true rfl) hL) (by simp [lg_sl, w_cat, z_ci, z_cr, z_cl, z_cn, kt_M236]) (Nat.le_of_ble_eq_true rfl) h (fun w1 hle h => ?_) (fun _ _ _ h => kzx_no rfl h)
  have h := h hle
  refine kz_aload_n (M := kt_M239) kX2_cutLine_c12.2.2.2.2.2.1 rfl ?_
  refine kz_dup (M := kt_M239) kX2_cutLine_c12.2.2.2.2.2.2.1 rfl ?_
  refine kz_gfi (M := kt_M239) (c := 1) (o := 0) kX2_cutLine_c12.2.2.2.2.2.2.2.1 wf_X2_101 (.inl rfl) ?_
  refine kz_ic (M := kt_M239) 1 kX2_cutLine_c13.1 rfl ?_
  refine kz_iadd (M := kt_M239) kX2_cutLine_c13.2.1 ?_
  refine kz_pfi (M := kt_M239) (c := 1) (o := 0) kX2_cutLine_c13.2.2.1 wq_X2_101 (.inl rfl) ?_
  exact kz_ret (M := kt_M239) kX2_cutLine_c13.2.2.2.1 rfl h
def zb_X2_cutLine_p147 (E : zE) (L : Nat) (Q : kx_Rs → wS → Prop) (x3 : Int32) (x5 : Int32) (x6 : Int32) (w : wS) : Prop := (if ¬ w_i w 1 0 7 = x5 then (if ¬ (x6 - x6 / 2 * 2) = 0 then zb_X2_cutLine_p178 E L Q x3 (-1) x5 w else zb_X2_cutLine_p178 E L Q x3 (x6 / 2) x5 w) else Q (.inl none) w)
theorem zt_X2_cutLine_p147 {E : zE} {L : Nat} {Q : kx_Rs → wS → Prop} {x3 : Int32} {x5 : Int32} {x6 : Int32} {w : wS} (hL : 25 ≤ L) (h : zb_X2_cutLine_p147 E L Q x3 x5 x6 w) : kzE E L kt_M239 147 [(0, .ref (w_adr E.2.1 1 0)), (3, .int x3), (5, .int x5), (6, .int x6)] [] w Q := by
  unfold zb_X2_cutLine_p147 at h
  refine kz_aload_n (M := kt_M239) kX2_cutLine_c9.2.2.2.2.2.1 rfl ?_
  refine kz_gfi (M := kt_M239) (c := 1) (o := 0) kX2_cutLine_c9.2.2.2.2.2.2.1 wf_X2_95 (.inl rfl) ?_
  refine kz_iload (M := kt_M239) kX2_cutLine_c9.2.2.2.2.2.2.2.1 rfl ?_
  refine kz_icmp_ne (M := kt_M239) kX2_cutLine_c10.1 (t := 157) rfl h (fun h => ?_) (fun h => ?_)
  · skip
    refine kz_aload_n (M := kt_M239) kX2_cutLine_c10.2.2.1 rfl ?_
    refine kz_gfc (M := kt_M239) (x := 1262) (c := 1) (o := 0) kX2_cutLine_c10.2.2.2.1 wf_X2_33 (.inl rfl) ?_
    refine kz_iload (M := kt_M239) kX2_cutLine_c10.2.2.2.2.1 rfl ?_
    refine kz_iload (M := kt_M239) kX2_cutLine_c10.2.2.2.2.2.1 rfl ?_
    refine kz_ic (M := kt_M239) 2 kX2_cutLine_c10.2.2.2.2.2.2.1 rfl ?_
    refine kz_irem (M := kt_M239) kX2_cutLine_c10.2.2.2.2.2.2.2.1 (by decide) ?_
    refine kz_if_ne (M := kt_M239) kX2_cutLine_c11.1 (t := 177) rfl h (fun h => ?_) (fun h => ?_)
    · skip
      refine kz_ic (M := kt_M239) (-1) kX2_cutLine_c11.2.2.2.2.2.1 rfl ?_
      exact kz_weak [(0, .ref (w_adr E.2.1 1 0)), (3, .int x3)] ⟨rfl, ⟨rfl, trivial⟩⟩ rfl (zt_X2_cutLine_p178 hL  h)
    · skip
      refine kz_iload (M := kt_M239) kX2_cutLine_c11.2.1 rfl ?_
      refine kz_ic (M := kt_M239) 2 kX2_cutLine_c11.2.2.1 rfl ?_
      refine kz_idiv (M := kt_M239) kX2_cutLine_c11.2.2.2.1 (by decide) ?_
      refine kz_goto (M := kt_M239) kX2_cutLine_c11.2.2.2.2.1 (t := 178) rfl ?_
      exact kz_weak [(0, .ref (w_adr E.2.1 1 0)), (3, .int x3)] ⟨rfl, ⟨rfl, trivial⟩⟩ rfl (zt_X2_cutLine_p178 hL  h)
  · skip
    exact kz_ret (M := kt_M239) kX2_cutLine_c10.2.1 rfl h
def zb_X2_cutLine_p132 (E : zE) (L : Nat) (Q : kx_Rs → wS → Prop) (x2 : Int32) (x3 : Int32) (x4 : Int32) (x5 : Int32) (x6 : Int32) (y0 : Int32) (w : wS) : Prop := zL_X2_cutLine_p42 E L Q x2 x3 x4 x5 x6 y0 (ws_i w 1 0 9 ((w_i w 1 0 9) + 1))
theorem zt_X2_cutLine_p132 {E : zE} {L : Nat} {Q : kx_Rs → wS → Prop} {x2 : Int32} {x3 : Int32} {x4 : Int32} {x5 : Int32} {x6 : Int32} {y0 : Int32} {w : wS} (hL : 25 ≤ L) (h : zb_X2_cutLine_p132 E L Q x2 x3 x4 x5 x6 y0 w) : kzE E L kt_M239 132 [(0, .ref (w_adr E.2.1 1 0)), (2, .int x2), (3, .int x3), (4, .int x4), (5, .int x5), (6, .int x6)] [.int y0] w Q := by
  unfold zb_X2_cutLine_p132 at h
  refine kz_sti (M := kt_M239) [(0, .ref (w_adr E.2.1 1 0)), (2, .int x2), (3, .int x3), (4, .int x4), (5, .int x5), (6, .int x6)] kX2_cutLine_c8.2.2.2.2.2.1 (Nat.le_of_ble_eq_true rfl) ⟨⟨rfl, rfl, .inl rfl⟩, ⟨⟨rfl, rfl, .inl rfl⟩, ⟨⟨rfl, rfl, .inl rfl⟩, ⟨⟨rfl, rfl, .inl rfl⟩, ⟨⟨rfl, rfl, .inl rfl⟩, ⟨⟨rfl, rfl, .inr rfl⟩, trivial⟩⟩⟩⟩⟩⟩ rfl ?_
  refine kz_aload_n (M := kt_M239) kX2_cutLine_c8.2.2.2.2.2.2.1 rfl ?_
  refine kz_dup (M := kt_M239) kX2_cutLine_c8.2.2.2.2.2.2.2.1 rfl ?_
  refine kz_gfi (M := kt_M239) (c := 1) (o := 0) kX2_cutLine_c9.1 wf_X2_104 (.inl rfl) ?_
  refine kz_ic (M := kt_M239) 1 kX2_cutLine_c9.2.1 rfl ?_
  refine kz_iadd (M := kt_M239) kX2_cutLine_c9.2.2.1 ?_
  refine kz_pfi (M := kt_M239) (c := 1) (o := 0) kX2_cutLine_c9.2.2.2.1 wq_X2_104 (.inl rfl) ?_
  refine kz_goto (M := kt_M239) kX2_cutLine_c9.2.2.2.2.1 (t := 42) rfl ?_
  exact kz_weak [(0, .ref (w_adr E.2.1 1 0)), (2, .int x2), (3, .int x3), (4, .int x4), (5, .int x5), (6, .int x6), (7, .int y0)] ⟨rfl, ⟨rfl, ⟨rfl, ⟨rfl, ⟨rfl, ⟨rfl, ⟨rfl, trivial⟩⟩⟩⟩⟩⟩⟩ rfl h
def zb_X2_cutLine_p111 (E : zE) (L : Nat) (Q : kx_Rs → wS → Prop) (x2 : Int32) (x3 : Int32) (x4 : Int32) (x5 : Int32) (x6 : Int32) (w : wS) : Prop := zw E (L - 25) kt_M251 [.ref (w_adr E.2.1 1 0), .int x4, .int x2, .int x3] w (wk1 (fun v2 w1 => wle w w1 → (if v2 = (-1) then zb_X2_cutLine_p132 E L Q x2 x3 v2 x5 x6 0 w1 else zb_X2_cutLine_p132 E L Q x2 x3 v2 x5 x6 1 w1)) (fun e w => Q (.inr e) w))
theorem zt_X2_cutLine_p111 {E : zE} {L : Nat} {Q : kx_Rs → wS → Prop} {x2 : Int32} {x3 : Int32} {x4 : Int32} {x5 : Int32} {x6 : Int32} {w : wS} (hL : 25 ≤ L) (h : zb_X2_cutLine_p111 E L Q x2 x3 x4 x5 x6 w) : kzE E L kt_M239 111 [(0, .ref (w_adr E.2.1 1 0)), (2, .int x2), (3, .int x3), (4, .int x4), (5, .int x5), (6, .int x6)] [] w Q := by
  unfold zb_X2_cutLine_p111 at h
  refine kz_aload_n (M := kt_M239) kX2_cutLine_c7.2.1 rfl ?_
  refine kz_iload (M := kt_M239) kX2_cutLine_c7.2.2.1 rfl ?_
  refine kz_iload_n (M := kt_M239) kX2_cutLine_c7.2.2.2.1 rfl ?_
  refine kz_iload_n (M := kt_M239) kX2_cutLine_c7.2.2.2.2.1 rfl ?_
  refine kz_cv1 (M := kt_M239) (c := 1) (o := 0) (As := [.int x4, .int x2, .int x3]) (rest := []) kX2_cutLine_c7.2.2.2.2.2.1 wl_X2_122 wMv_251 rfl (.inl rfl) rfl (Nat.le_trans (Nat.le_of_ble_eq_true rfl) hL) (Nat.le_of_ble_eq_true rfl) (Nat.le_of_ble_eq_true rfl) h (fun v2 w1 hle h => ?_) (fun _ _ _ h => kzx_no rfl h)
  have h := h hle
  refine kz_sti (M := kt_M239) [(0, .ref (w_adr E.2.1 1 0)), (2, .int x2), (3, .int x3), (5, .int x5), (6, .int x6)] kX2_cutLine_c7.2.2.2.2.2.2.1 (Nat.le_of_ble_eq_true rfl) ⟨⟨rfl, rfl, .inl rfl⟩, ⟨⟨rfl, rfl, .inl rfl⟩, ⟨⟨rfl, rfl, .inr rfl⟩, ⟨⟨rfl, rfl, .inl rfl⟩, ⟨⟨rfl, rfl, .inl rfl⟩, trivial⟩⟩⟩⟩⟩ rfl ?_
  refine kz_iload (M := kt_M239) kX2_cutLine_c7.2.2.2.2.2.2.2.1 rfl ?_
  refine kz_ic (M := kt_M239) (-1) kX2_cutLine_c8.1 rfl ?_
  refine kz_icmp_eq (M := kt_M239) kX2_cutLine_c8.2.1 (t := 131) rfl h (fun h => ?_) (fun h => ?_)
  · skip
    refine kz_ic (M := kt_M239) 0 kX2_cutLine_c8.2.2.2.2.1 rfl ?_
    exact kz_weak [(0, .ref (w_adr E.2.1 1 0)), (2, .int x2), (3, .int x3), (4, .int v2), (5, .int x5), (6, .int x6)] ⟨rfl, ⟨rfl, ⟨rfl, ⟨rfl, ⟨rfl, ⟨rfl, trivial⟩⟩⟩⟩⟩⟩ rfl (zt_X2_cutLine_p132 hL  h)
  · skip
    refine kz_ic (M := kt_M239) 1 kX2_cutLine_c8.2.2.1 rfl ?_
    refine kz_goto (M := kt_M239) kX2_cutLine_c8.2.2.2.1 (t := 132) rfl ?_
    exact kz_weak [(0, .ref (w_adr E.2.1 1 0)), (2, .int x2), (3, .int x3), (4, .int v2), (5, .int x5), (6, .int x6)] ⟨rfl, ⟨rfl, ⟨rfl, ⟨rfl, ⟨rfl, ⟨rfl, trivial⟩⟩⟩⟩⟩⟩ rfl (zt_X2_cutLine_p132 hL  h)
def zb_X2_cutLine_p42 (E : zE) (L : Nat) (Q : kx_Rs → wS → Prop) (x2 : Int32) (x3 : Int32) (x4 : Int32) (x5 : Int32) (x6 : Int32) (x7 : Int32) (w : wS) : Prop := (if x7 = 0 then zb_X2_cutLine_p147 E L Q x3 x5 x6 w else (if x2 ≤ x4 then zb_X2_cutLine_p147 E L Q x3 x5 x6 w else (kx_inb x4 (w_n w 1 0 0) = true ∧ (if ¬ w_a w 1 0 0 (x4).toNatClampNeg = 32 then (kx_inb x4 (w_n w 1 0 0) = true ∧ (if ¬ w_a w 1 0 0 (x4).toNatClampNeg = 45 then zb_X2_cutLine_p111 E L Q x2 x3 x4 x5 x6 w else (if x2 ≤ (x4 + 1) then zb_X2_cutLine_p111 E L Q x2 x3 x4 x5 x6 w else (kx_inb (x4 + 1) (w_n w 1 0 0) = true ∧ (if ¬ w_a w 1 0 0 ((x4 + 1)).toNatClampNeg = 45 then zb_X2_cutLine_p111 E L Q x2 x3 x4 x5 x6 w else zL_X2_cutLine_p42 E L Q x2 x3 x2 x5 x6 x7 w))))) else zL_X2_cutLine_p42 E L Q x2 x3 (x4 + 1) x5 x6 x7 w))))
theorem zt_X2_cutLine_p42 {E : zE} {L : Nat} {Q : kx_Rs → wS → Prop} {x2 : Int32} {x3 : Int32} {x4 : Int32} {x5 : Int32} {x6 : Int32} {x7 : Int32} {w : wS} (hL : 25 ≤ L) (h : zb_X2_cutLine_p42 E L Q x2 x3 x4 x5 x6 x7 w) : kzE E L kt_M239 42 [(0, .ref (w_adr E.2.1 1 0)), (2, .int x2), (3, .int x3), (4, .int x4), (5, .int x5), (6, .int x6), (7, .int x7)] [] w Q := by
  unfold zb_X2_cutLine_p42 at h
  refine kz_iload (M := kt_M239) kX2_cutLine_c2.2.2.2.2.2.2.1 rfl ?_
  refine kz_if_eq (M := kt_M239) kX2_cutLine_c2.2.2.2.2.2.2.2.1 (t := 147) rfl h (fun h => ?_) (fun h => ?_)
  · skip
    exact kz_weak [(0, .ref (w_adr E.2.1 1 0)), (3, .int x3), (5, .int x5), (6, .int x6)] ⟨rfl, ⟨rfl, ⟨rfl, ⟨rfl, trivial⟩⟩⟩⟩ rfl (zt_X2_cutLine_p147 hL  h)
  · skip
    refine kz_iload (M := kt_M239) kX2_cutLine_c3.1 rfl ?_
    refine kz_iload_n (M := kt_M239) kX2_cutLine_c3.2.1 rfl ?_
    refine kz_icmp_ge (M := kt_M239) kX2_cutLine_c3.2.2.1 (t := 147) rfl h (fun h => ?_) (fun h => ?_)
    · skip
      exact kz_weak [(0, .ref (w_adr E.2.1 1 0)), (3, .int x3), (5, .int x5), (6, .int x6)] ⟨rfl, ⟨rfl, ⟨rfl, ⟨rfl, trivial⟩⟩⟩⟩ rfl (zt_X2_cutLine_p147 hL  h)
    · skip
      refine kz_aload_n (M := kt_M239) kX2_cutLine_c3.2.2.2.1 rfl ?_
      refine kz_gfc (M := kt_M239) (x := 1256) (c := 1) (o := 0) kX2_cutLine_c3.2.2.2.2.1 wf_X2_11 (.inl rfl) ?_
      refine kz_iload (M := kt_M239) kX2_cutLine_c3.2.2.2.2.2.1 rfl ?_
      refine kz_bald (M := kt_M239) (c := 1) (o := 0) (k := 0) (a := (E.2.1 1256)) kX2_cutLine_c3.2.2.2.2.2.2.1 ow_1_0_0 oa_1_0_0 ot_1 h (fun h => ?_)
      refine kz_bi (M := kt_M239) 32 kX2_cutLine_c3.2.2.2.2.2.2.2.1 rfl ?_
      refine kz_icmp_ne (M := kt_M239) kX2_cutLine_c4.1 (t := 71) rfl h (fun h => ?_) (fun h => ?_)
      · skip
        refine kz_aload_n (M := kt_M239) kX2_cutLine_c4.2.2.2.1 rfl ?_
        refine kz_gfc (M := kt_M239) (x := 1256) (c := 1) (o := 0) kX2_cutLine_c4.2.2.2.2.1 wf_X2_11 (.inl rfl) ?_
        refine kz_iload (M := kt_M239) kX2_cutLine_c4.2.2.2.2.2.1 rfl ?_
        refine kz_bald (M := kt_M239) (c := 1) (o := 0) (k := 0) (a := (E.2.1 1256)) kX2_cutLine_c4.2.2.2.2.2.2.1 ow_1_0_0 oa_1_0_0 ot_1 h (fun h => ?_)
        refine kz_bi (M := kt_M239) 45 kX2_cutLine_c4.2.2.2.2.2.2.2.1 rfl ?_
        refine kz_icmp_ne (M := kt_M239) kX2_cutLine_c5.1 (t := 111) rfl h (fun h => ?_) (fun h => ?_)
        · skip
          exact kz_weak [(0, .ref (w_adr E.2.1 1 0)), (2, .int x2), (3, .int x3), (4, .int x4), (5, .int x5), (6, .int x6)] ⟨rfl, ⟨rfl, ⟨rfl, ⟨rfl, ⟨rfl, ⟨rfl, trivial⟩⟩⟩⟩⟩⟩ rfl (zt_X2_cutLine_p111 hL  h)
        · skip
          refine kz_iload (M := kt_M239) kX2_cutLine_c5.2.1 rfl ?_
          refine kz_ic (M := kt_M239) 1 kX2_cutLine_c5.2.2.1 rfl ?_
          refine kz_iadd (M := kt_M239) kX2_cutLine_c5.2.2.2.1 ?_
          refine kz_iload_n (M := kt_M239) kX2_cutLine_c5.2.2.2.2.1 rfl ?_
          refine kz_icmp_ge (M := kt_M239) kX2_cutLine_c5.2.2.2.2.2.1 (t := 111) rfl h (fun h => ?_) (fun h => ?_)
          · skip
            exact kz_weak [(0, .ref (w_adr E.2.1 1 0)), (2, .int x2), (3, .int x3), (4, .int x4), (5, .int x5), (6, .int x6)] ⟨rfl, ⟨rfl, ⟨rfl, ⟨rfl, ⟨rfl, ⟨rfl, trivial⟩⟩⟩⟩⟩⟩ rfl (zt_X2_cutLine_p111 hL  h)
          · skip
            refine kz_aload_n (M := kt_M239) kX2_cutLine_c5.2.2.2.2.2.2.1 rfl ?_
            refine kz_gfc (M := kt_M239) (x := 1256) (c := 1) (o := 0) kX2_cutLine_c5.2.2.2.2.2.2.2.1 wf_X2_11 (.inl rfl) ?_
            refine kz_iload (M := kt_M239) kX2_cutLine_c6.1 rfl ?_
            refine kz_ic (M := kt_M239) 1 kX2_cutLine_c6.2.1 rfl ?_
            refine kz_iadd (M := kt_M239) kX2_cutLine_c6.2.2.1 ?_
            refine kz_bald (M := kt_M239) (c := 1) (o := 0) (k := 0) (a := (E.2.1 1256)) kX2_cutLine_c6.2.2.2.1 ow_1_0_0 oa_1_0_0 ot_1 h (fun h => ?_)
            refine kz_bi (M := kt_M239) 45 kX2_cutLine_c6.2.2.2.2.1 rfl ?_
            refine kz_icmp_ne (M := kt_M239) kX2_cutLine_c6.2.2.2.2.2.1 (t := 111) rfl h (fun h => ?_) (fun h => ?_)
            · skip
              exact kz_weak [(0, .ref (w_adr E.2.1 1 0)), (2, .int x2), (3, .int x3), (4, .int x4), (5, .int x5), (6, .int x6)] ⟨rfl, ⟨rfl, ⟨rfl, ⟨rfl, ⟨rfl, ⟨rfl, trivial⟩⟩⟩⟩⟩⟩ rfl (zt_X2_cutLine_p111 hL  h)
            · skip
              refine kz_iload_n (M := kt_M239) kX2_cutLine_c6.2.2.2.2.2.2.1 rfl ?_
              refine kz_sti (M := kt_M239) [(0, .ref (w_adr E.2.1 1 0)), (2, .int x2), (3, .int x3), (5, .int x5), (6, .int x6), (7, .int x7)] kX2_cutLine_c6.2.2.2.2.2.2.2.1 (Nat.le_of_ble_eq_true rfl) ⟨⟨rfl, rfl, .inl rfl⟩, ⟨⟨rfl, rfl, .inl rfl⟩, ⟨⟨rfl, rfl, .inr rfl⟩, ⟨⟨rfl, rfl, .inl rfl⟩, ⟨⟨rfl, rfl, .inl rfl⟩, ⟨⟨rfl, rfl, .inl rfl⟩, trivial⟩⟩⟩⟩⟩⟩ rfl ?_
              refine kz_goto (M := kt_M239) kX2_cutLine_c7.1 (t := 42) rfl ?_
              exact kz_weak [(0, .ref (w_adr E.2.1 1 0)), (2, .int x2), (3, .int x3), (4, .int x2), (5, .int x5), (6, .int x6), (7, .int x7)] ⟨rfl, ⟨rfl, ⟨rfl, ⟨rfl, ⟨rfl, ⟨rfl, ⟨rfl, trivial⟩⟩⟩⟩⟩⟩⟩ rfl h
      · skip
        refine kz_inc (M := kt_M239) [(0, .ref (w_adr E.2.1 1 0)), (2, .int x2), (3, .int x3), (5, .int x5), (6, .int x6), (7, .int x7)] kX2_cutLine_c4.2.1 rfl (Nat.le_of_ble_eq_true rfl) ⟨⟨rfl, rfl, .inl rfl⟩, ⟨⟨rfl, rfl, .inl rfl⟩, ⟨⟨rfl, rfl, .inr rfl⟩, ⟨⟨rfl, rfl, .inl rfl⟩, ⟨⟨rfl, rfl, .inl rfl⟩, ⟨⟨rfl, rfl, .inl rfl⟩, trivial⟩⟩⟩⟩⟩⟩ rfl ?_
        refine kz_goto (M := kt_M239) kX2_cutLine_c4.2.2.1 (t := 42) rfl ?_
        exact kz_weak [(0, .ref (w_adr E.2.1 1 0)), (2, .int x2), (3, .int x3), (4, .int (x4 + 1)), (5, .int x5), (6, .int x6), (7, .int x7)] ⟨rfl, ⟨rfl, ⟨rfl, ⟨rfl, ⟨rfl, ⟨rfl, ⟨rfl, trivial⟩⟩⟩⟩⟩⟩⟩ rfl h
def zb_X2_cutLine_p33 (E : zE) (L : Nat) (Q : kx_Rs → wS → Prop) (x1 : Int32) (x2 : Int32) (x3 : Int32) (x4 : Int32) (x5 : Int32) (w : wS) : Prop := zL_X2_cutLine_p42 E L Q x2 x3 x4 x5 (x4 - x1) 1 w
theorem zt_X2_cutLine_p33 {E : zE} {L : Nat} {Q : kx_Rs → wS → Prop} {x1 : Int32} {x2 : Int32} {x3 : Int32} {x4 : Int32} {x5 : Int32} {w : wS} (hL : 25 ≤ L) (h : zb_X2_cutLine_p33 E L Q x1 x2 x3 x4 x5 w) : kzE E L kt_M239 33 [(0, .ref (w_adr E.2.1 1 0)), (1, .int x1), (2, .int x2), (3, .int x3), (4, .int x4), (5, .int x5)] [] w Q := by
  unfold zb_X2_cutLine_p33 at h
  refine kz_iload (M := kt_M239) kX2_cutLine_c2.1 rfl ?_
  refine kz_iload_n (M := kt_M239) kX2_cutLine_c2.2.1 rfl ?_
  refine kz_isub (M := kt_M239) kX2_cutLine_c2.2.2.1 ?_
  refine kz_sti (M := kt_M239) [(0, .ref (w_adr E.2.1 1 0)), (2, .int x2), (3, .int x3), (4, .int x4), (5, .int x5)] kX2_cutLine_c2.2.2.2.1 (Nat.le_of_ble_eq_true rfl) ⟨⟨rfl, rfl, .inl rfl⟩, ⟨⟨rfl, rfl, .inl rfl⟩, ⟨⟨rfl, rfl, .inl rfl⟩, ⟨⟨rfl, rfl, .inl rfl⟩, ⟨⟨rfl, rfl, .inr rfl⟩, trivial⟩⟩⟩⟩⟩ rfl ?_
  refine kz_ic (M := kt_M239) 1 kX2_cutLine_c2.2.2.2.2.1 rfl ?_
  refine kz_sti (M := kt_M239) [(0, .ref (w_adr E.2.1 1 0)), (2, .int x2), (3, .int x3), (4, .int x4), (5, .int x5), (6, .int (x4 - x1))] kX2_cutLine_c2.2.2.2.2.2.1 (Nat.le_of_ble_eq_true rfl) ⟨⟨rfl, rfl, .inl rfl⟩, ⟨⟨rfl, rfl, .inl rfl⟩, ⟨⟨rfl, rfl, .inl rfl⟩, ⟨⟨rfl, rfl, .inl rfl⟩, ⟨⟨rfl, rfl, .inl rfl⟩, ⟨⟨rfl, rfl, .inr rfl⟩, trivial⟩⟩⟩⟩⟩⟩ rfl ?_
  exact kz_weak [(0, .ref (w_adr E.2.1 1 0)), (2, .int x2), (3, .int x3), (4, .int x4), (5, .int x5), (6, .int (x4 - x1)), (7, .int 1)] ⟨rfl, ⟨rfl, ⟨rfl, ⟨rfl, ⟨rfl, ⟨rfl, ⟨rfl, trivial⟩⟩⟩⟩⟩⟩⟩ rfl h
def zb_X2_cutLine_p9 (E : zE) (L : Nat) (Q : kx_Rs → wS → Prop) (x1 : Int32) (x2 : Int32) (x3 : Int32) (x4 : Int32) (x5 : Int32) (w : wS) : Prop := (if x2 ≤ x4 then zb_X2_cutLine_p33 E L Q x1 x2 x3 x4 x5 w else (kx_inb x4 (w_n w 1 0 0) = true ∧ (if ¬ w_a w 1 0 0 (x4).toNatClampNeg = 32 then zb_X2_cutLine_p33 E L Q x1 x2 x3 x4 x5 w else zL_X2_cutLine_p9 E L Q x1 x2 x3 (x4 + 1) x5 w)))
theorem zt_X2_cutLine_p9 {E : zE} {L : Nat} {Q : kx_Rs → wS → Prop} {x1 : Int32} {x2 : Int32} {x3 : Int32} {x4 : Int32} {x5 : Int32} {w : wS} (hL : 25 ≤ L) (h : zb_X2_cutLine_p9 E L Q x1 x2 x3 x4 x5 w) : kzE E L kt_M239 9 [(0, .ref (w_adr E.2.1 1 0)), (1, .int x1), (2, .int x2), (3, .int x3), (4, .int x4), (5, .int x5)] [] w Q := by
  unfold zb_X2_cutLine_p9 at h
  refine kz_iload (M := kt_M239) kX2_cutLine_c0.2.2.2.2.2.1 rfl ?_
  refine kz_iload_n (M := kt_M239) kX2_cutLine_c0.2.2.2.2.2.2.1 rfl ?_
  refine kz_icmp_ge (M := kt_M239) kX2_cutLine_c0.2.2.2.2.2.2.2.1 (t := 33) rfl h (fun h => ?_) (fun h => ?_)
  · skip
    exact kz_weak [(0, .ref (w_adr E.2.1 1 0)), (1, .int x1), (2, .int x2), (3, .int x3), (4, .int x4), (5, .int x5)] ⟨rfl, ⟨rfl, ⟨rfl, ⟨rfl, ⟨rfl, ⟨rfl, trivial⟩⟩⟩⟩⟩⟩ rfl (zt_X2_cutLine_p33 hL  h)
  · skip
    refine kz_aload_n (M := kt_M239) kX2_cutLine_c1.1 rfl ?_
    refine kz_gfc (M := kt_M239) (x := 1256) (c := 1) (o := 0) kX2_cutLine_c1.2.1 wf_X2_11 (.inl rfl) ?_
    refine kz_iload (M := kt_M239) kX2_cutLine_c1.2.2.1 rfl ?_
    refine kz_bald (M := kt_M239) (c := 1) (o := 0) (k := 0) (a := (E.2.1 1256)) kX2_cutLine_c1.2.2.2.1 ow_1_0_0 oa_1_0_0 ot_1 h (fun h => ?_)
    refine kz_bi (M := kt_M239) 32 kX2_cutLine_c1.2.2.2.2.1 rfl ?_
    refine kz_icmp_ne (M := kt_M239) kX2_cutLine_c1.2.2.2.2.2.1 (t := 33) rfl h (fun h => ?_) (fun h => ?_)
    · skip
      exact kz_weak [(0, .ref (w_adr E.2.1 1 0)), (1, .int x1), (2, .int x2), (3, .int x3), (4, .int x4), (5, .int x5)] ⟨rfl, ⟨rfl, ⟨rfl, ⟨rfl, ⟨rfl, ⟨rfl, trivial⟩⟩⟩⟩⟩⟩ rfl (zt_X2_cutLine_p33 hL  h)
    · skip
      refine kz_inc (M := kt_M239) [(0, .ref (w_adr E.2.1 1 0)), (1, .int x1), (2, .int x2), (3, .int x3), (5, .int x5)] kX2_cutLine_c1.2.2.2.2.2.2.1 rfl (Nat.le_of_ble_eq_true rfl) ⟨⟨rfl, rfl, .inl rfl⟩, ⟨⟨rfl, rfl, .inl rfl⟩, ⟨⟨rfl, rfl, .inl rfl⟩, ⟨⟨rfl, rfl, .inr rfl⟩, ⟨⟨rfl, rfl, .inl rfl⟩, trivial⟩⟩⟩⟩⟩ rfl ?_
      refine kz_goto (M := kt_M239) kX2_cutLine_c1.2.2.2.2.2.2.2.1 (t := 9) rfl ?_
      exact kz_weak [(0, .ref (w_adr E.2.1 1 0)), (1, .int x1), (2, .int x2), (3, .int x3), (4, .int (x4 + 1)), (5, .int x5)] ⟨rfl, ⟨rfl, ⟨rfl, ⟨rfl, ⟨rfl, ⟨rfl, trivial⟩⟩⟩⟩⟩⟩ rfl h
def zb_X2_cutLine_p0 (E : zE) (L : Nat) (Q : kx_Rs → wS → Prop) (x1 : Int32) (x2 : Int32) (x3 : Int32) (w : wS) : Prop := zL_X2_cutLine_p9 E L Q x1 x2 x3 x1 (w_i w 1 0 7) w
theorem zt_X2_cutLine_p0 {E : zE} {L : Nat} {Q : kx_Rs → wS → Prop} {x1 : Int32} {x2 : Int32} {x3 : Int32} {w : wS} (hL : 25 ≤ L) (h : zb_X2_cutLine_p0 E L Q x1 x2 x3 w) : kzE E L kt_M239 0 [(0, .ref (w_adr E.2.1 1 0)), (1, .int x1), (2, .int x2), (3, .int x3)] [] w Q := by
  unfold zb_X2_cutLine_p0 at h
  refine kz_iload_n (M := kt_M239) kX2_cutLine_c0.1 rfl ?_
  refine kz_sti (M := kt_M239) [(0, .ref (w_adr E.2.1 1 0)), (1, .int x1), (2, .int x2), (3, .int x3)] kX2_cutLine_c0.2.1 (Nat.le_of_ble_eq_true rfl) ⟨⟨rfl, rfl, .inl rfl⟩, ⟨⟨rfl, rfl, .inl rfl⟩, ⟨⟨rfl, rfl, .inl rfl⟩, ⟨⟨rfl, rfl, .inr rfl⟩, trivial⟩⟩⟩⟩ rfl ?_
  refine kz_aload_n (M := kt_M239) kX2_cutLine_c0.2.2.1 rfl ?_
  refine kz_gfi (M := kt_M239) (c := 1) (o := 0) kX2_cutLine_c0.2.2.2.1 wf_X2_95 (.inl rfl) ?_
  refine kz_sti (M := kt_M239) [(0, .ref (w_adr E.2.1 1 0)), (1, .int x1), (2, .int x2), (3, .int x3), (4, .int x1)] kX2_cutLine_c0.2.2.2.2.1 (Nat.le_of_ble_eq_true rfl) ⟨⟨rfl, rfl, .inl rfl⟩, ⟨⟨rfl, rfl, .inl rfl⟩, ⟨⟨rfl, rfl, .inl rfl⟩, ⟨⟨rfl, rfl, .inl rfl⟩, ⟨⟨rfl, rfl, .inr rfl⟩, trivial⟩⟩⟩⟩⟩ rfl ?_
  exact kz_weak [(0, .ref (w_adr E.2.1 1 0)), (1, .int x1), (2, .int x2), (3, .int x3), (4, .int x1), (5, .int (w_i w 1 0 7))] ⟨rfl, ⟨rfl, ⟨rfl, ⟨rfl, ⟨rfl, ⟨rfl, trivial⟩⟩⟩⟩⟩⟩ rfl h
def zb_X2_token_p124 (E : zE) (L : Nat) (Q : kx_Rs → wS → Prop) (x5 : Int32) (w : wS) : Prop := Q (.inl (some (.int x5))) w
theorem zt_X2_token_p124 {E : zE} {L : Nat} {Q : kx_Rs → wS → Prop} {x5 : Int32} {w : wS} (hL : 26 ≤ L) (h : zb_X2_token_p124 E L Q x5 w) : kzE E L kt_M251 124 [(0, .ref (w_adr E.2.1 1 0)), (5, .int x5)] [] w Q := by
  unfold zb_X2_token_p124 at h
  refine kz_iload (M := kt_M251) kX2_token_c8.2.2.2.1 rfl ?_
  exact kz_iret (M := kt_M251) kX2_token_c8.2.2.2.2.1 rfl rfl h
def zb_X2_token_p106 (E : zE) (L : Nat) (Q : kx_Rs → wS → Prop) (x3 : Int32) (y0 : Int32) (w : wS) : Prop := (if ¬ y0 = (-1) then zb_X2_token_p124 E L Q y0 w else zw E (L - 24) kt_M236 [.ref (w_adr E.2.1 1 0), va_rf (some (E.1.1 6)), .int 0, .int 0, .int x3] w (wk0 (fun w1 => wle w w1 → zb_X2_token_p124 E L Q y0 w1) (fun e w => Q (.inr e) w)))
theorem zt_X2_token_p106 {E : zE} {L : Nat} {Q : kx_Rs → wS → Prop} {x3 : Int32} {y0 : Int32} {w : wS} (hL : 26 ≤ L) (h : zb_X2_token_p106 E L Q x3 y0 w) : kzE E L kt_M251 106 [(0, .ref (w_adr E.2.1 1 0)), (3, .int x3)] [.int y0] w Q := by
  unfold zb_X2_token_p106 at h
  refine kz_sti (M := kt_M251) [(0, .ref (w_adr E.2.1 1 0)), (3, .int x3)] kX2_token_c7.2.1 (Nat.le_of_ble_eq_true rfl) ⟨⟨rfl, rfl, .inl rfl⟩, ⟨⟨rfl, rfl, .inl rfl⟩, trivial⟩⟩ rfl ?_
  refine kz_iload (M := kt_M251) kX2_token_c7.2.2.1 rfl ?_
  refine kz_ic (M := kt_M251) (-1) kX2_token_c7.2.2.2.1 rfl ?_
  refine kz_icmp_ne (M := kt_M251) kX2_token_c7.2.2.2.2.1 (t := 124) rfl h (fun h => ?_) (fun h => ?_)
  · skip
    exact kz_weak [(0, .ref (w_adr E.2.1 1 0)), (5, .int y0)] ⟨rfl, ⟨rfl, trivial⟩⟩ rfl (zt_X2_token_p124 hL  h)
  · skip
    refine kz_aload_n (M := kt_M251) kX2_token_c7.2.2.2.2.2.1 rfl ?_
    refine kz_getsE (M := kt_M251) (v := va_rf (some (E.1.1 6))) kX2_token_c7.2.2.2.2.2.2.1 zs_X2_147 ?_
    refine kz_ic (M := kt_M251) 0 kX2_token_c7.2.2.2.2.2.2.2.1 rfl ?_
    refine kz_ic (M := kt_M251) 0 kX2_token_c8.1 rfl ?_
    refine kz_iload_n (M := kt_M251) kX2_token_c8.2.1 rfl ?_
    refine kz_cv0 (M := kt_M251) (c := 1) (o := 0) (As := [va_rf (some (E.1.1 6)), .int 0, .int 0, .int x3]) (rest := []) kX2_token_c8.2.2.1 wl_X2_118 wMv_236 rfl (.inl rfl) rfl (Nat.le_trans (Nat.le_of_ble_eq_true rfl) hL) (by simp [lg_sl, w_cat, z_ci, z_cr, z_cl, z_cn, kt_M236]) (Nat.le_of_ble_eq_true rfl) h (fun w1 hle h => ?_) (fun _ _ _ h => kzx_no rfl h)
    have h := h hle
    exact kz_weak [(0, .ref (w_adr E.2.1 1 0)), (5, .int y0)] ⟨rfl, ⟨rfl, trivial⟩⟩ rfl (zt_X2_token_p124 hL  h)
def zb_X2_token_p0 (E : zE) (L : Nat) (Q : kx_Rs → wS → Prop) (x1 : Int32) (x2 : Int32) (x3 : Int32) (w : wS) : Prop := (kx_inb x1 (w_n w 1 0 0) = true ∧ zw E (L - 20) kt_M241 [.int ((w_a w 1 0 0 (x1).toNatClampNeg) &&& 255)] w (wk1 (fun v2 w1 => wle w w1 → (if v2 = 0 then zw E (L - 20) kt_M240 [.int ((w_a w 1 0 0 (x1).toNatClampNeg) &&& 255)] w1 (wk1 (fun v4 w3 => wle w1 w3 → (if v4 = 0 then (if ¬ ((w_a w 1 0 0 (x1).toNatClampNeg) &&& 255) = 35 then (if ¬ ((w_a w 1 0 0 (x1).toNatClampNeg) &&& 255) = 34 then (if ¬ ((w_a w 1 0 0 (x1).toNatClampNeg) &&& 255) = 39 then zw E (L - 26) kt_M247 [.ref (w_adr E.2.1 1 0), .int x1, .int x2, .int x3] w3 (wk1 (fun v6 w5 => wle w3 w5 → zb_X2_token_p106 E L Q x3 v6 w5) (fun e w => Q (.inr e) w)) else zw E (L - 25) kt_M237 [.ref (w_adr E.2.1 1 0), .int x1, .int x2, .int x3] w3 (wk1 (fun v8 w7 => wle w3 w7 → zb_X2_token_p106 E L Q x3 v8 w7) (fun e w => Q (.inr e) w))) else zw E (L - 25) kt_M250 [.ref (w_adr E.2.1 1 0), .int x1, .int x2, .int x3] w3 (wk1 (fun v10 w9 => wle w3 w9 → zb_X2_token_p106 E L Q x3 v10 w9) (fun e w => Q (.inr e) w))) else zw E (L - 25) kt_M249 [.ref (w_adr E.2.1 1 0), .int x1, .int x2, .int x3] w3 (wk1 (fun v12 w11 => wle w3 w11 → zb_X2_token_p106 E L Q x3 v12 w11) (fun e w => Q (.inr e) w))) else zw E (L - 26) kt_M245 [.ref (w_adr E.2.1 1 0), .int x1, .int x2, .int x3] w3 (wk1 (fun v14 w13 => wle w3 w13 → zb_X2_token_p106 E L Q x3 v14 w13) (fun e w => Q (.inr e) w)))) (fun e w => Q (.inr e) w)) else zw E (L - 25) kt_M252 [.ref (w_adr E.2.1 1 0), .int x1, .int x2, .int x3] w1 (wk1 (fun v16 w15 => wle w1 w15 → zb_X2_token_p106 E L Q x3 v16 w15) (fun e w => Q (.inr e) w)))) (fun e w => Q (.inr e) w)))
theorem zt_X2_token_p0 {E : zE} {L : Nat} {Q : kx_Rs → wS → Prop} {x1 : Int32} {x2 : Int32} {x3 : Int32} {w : wS} (hL : 26 ≤ L) (h : zb_X2_token_p0 E L Q x1 x2 x3 w) : kzE E L kt_M251 0 [(0, .ref (w_adr E.2.1 1 0)), (1, .int x1), (2, .int x2), (3, .int x3)] [] w Q := by
  unfold zb_X2_token_p0 at h
  refine kz_aload_n (M := kt_M251) kX2_token_c0.1 rfl ?_
  refine kz_gfc (M := kt_M251) (x := 1256) (c := 1) (o := 0) kX2_token_c0.2.1 wf_X2_11 (.inl rfl) ?_
  refine kz_iload_n (M := kt_M251) kX2_token_c0.2.2.1 rfl ?_
  refine kz_bald (M := kt_M251) (c := 1) (o := 0) (k := 0) (a := (E.2.1 1256)) kX2_token_c0.2.2.2.1 ow_1_0_0 oa_1_0_0 ot_1 h (fun h => ?_)
  refine kz_si (M := kt_M251) 255 kX2_token_c0.2.2.2.2.1 rfl ?_
  refine kz_iand (M := kt_M251) kX2_token_c0.2.2.2.2.2.1 ?_
  refine kz_sti (M := kt_M251) [(0, .ref (w_adr E.2.1 1 0)), (1, .int x1), (2, .int x2), (3, .int x3)] kX2_token_c0.2.2.2.2.2.2.1 (Nat.le_of_ble_eq_true rfl) ⟨⟨rfl, rfl, .inl rfl⟩, ⟨⟨rfl, rfl, .inl rfl⟩, ⟨⟨rfl, rfl, .inl rfl⟩, ⟨⟨rfl, rfl, .inr rfl⟩, trivial⟩⟩⟩⟩ rfl ?_
  refine kz_iload (M := kt_M251) kX2_token_c0.2.2.2.2.2.2.2.1 rfl ?_
  refine kz_cs1 (M := kt_M251) (As := [.int ((w_a w 1 0 0 (x1).toNatClampNeg) &&& 255)]) (rest := []) kX2_token_c1.1 wl_X2_57 wMs_241 rfl (Nat.le_trans (Nat.le_of_ble_eq_true rfl) hL) (Nat.le_of_ble_eq_true rfl) (Nat.le_of_ble_eq_true rfl) h (fun v2 w1 hle h => ?_) (fun _ _ _ h => kzx_no rfl h)
  have h := h hle
  refine kz_if_eq (M := kt_M251) kX2_token_c1.2.1 (t := 30) rfl h (fun h => ?_) (fun h => ?_)
  · skip
    refine kz_iload (M := kt_M251) kX2_token_c2.1 rfl ?_
    refine kz_cs1 (M := kt_M251) (As := [.int ((w_a w 1 0 0 (x1).toNatClampNeg) &&& 255)]) (rest := []) kX2_token_c2.2.1 wl_X2_61 wMs_240 rfl (Nat.le_trans (Nat.le_of_ble_eq_true rfl) hL) (Nat.le_of_ble_eq_true rfl) (Nat.le_of_ble_eq_true rfl) h (fun v4 w3 hle h => ?_) (fun _ _ _ h => kzx_no rfl h)
    have h := h hle
    refine kz_if_eq (M := kt_M251) kX2_token_c2.2.2.1 (t := 48) rfl h (fun h => ?_) (fun h => ?_)
    · skip
      refine kz_iload (M := kt_M251) kX2_token_c3.2.1 rfl ?_
      refine kz_bi (M := kt_M251) 35 kX2_token_c3.2.2.1 rfl ?_
      refine kz_icmp_ne (M := kt_M251) kX2_token_c3.2.2.2.1 (t := 65) rfl h (fun h => ?_) (fun h => ?_)
      · skip
        refine kz_iload (M := kt_M251) kX2_token_c4.2.2.1 rfl ?_
        refine kz_bi (M := kt_M251) 34 kX2_token_c4.2.2.2.1 rfl ?_
        refine kz_icmp_ne (M := kt_M251) kX2_token_c4.2.2.2.2.1 (t := 82) rfl h (fun h => ?_) (fun h => ?_)
        · skip
          refine kz_iload (M := kt_M251) kX2_token_c5.2.2.2.1 rfl ?_
          refine kz_bi (M := kt_M251) 39 kX2_token_c5.2.2.2.2.1 rfl ?_
          refine kz_icmp_ne (M := kt_M251) kX2_token_c5.2.2.2.2.2.1 (t := 99) rfl h (fun h => ?_) (fun h => ?_)
          · skip
            refine kz_aload_n (M := kt_M251) kX2_token_c6.2.2.2.2.1 rfl ?_
            refine kz_iload_n (M := kt_M251) kX2_token_c6.2.2.2.2.2.1 rfl ?_
            refine kz_iload_n (M := kt_M251) kX2_token_c6.2.2.2.2.2.2.1 rfl ?_
            refine kz_iload_n (M := kt_M251) kX2_token_c6.2.2.2.2.2.2.2.1 rfl ?_
            refine kz_cv1 (M := kt_M251) (c := 1) (o := 0) (As := [.int x1, .int x2, .int x3]) (rest := []) kX2_token_c7.1 wl_X2_144 wMv_247 rfl (.inl rfl) rfl (Nat.le_trans (Nat.le_of_ble_eq_true rfl) hL) (Nat.le_of_ble_eq_true rfl) (Nat.le_of_ble_eq_true rfl) h (fun v6 w5 hle h => ?_) (fun _ _ _ h => kzx_no rfl h)
            have h := h hle
            exact kz_weak [(0, .ref (w_adr E.2.1 1 0)), (3, .int x3)] ⟨rfl, ⟨rfl, trivial⟩⟩ rfl (zt_X2_token_p106 hL  h)
          · skip
            refine kz_aload_n (M := kt_M251) kX2_token_c5.2.2.2.2.2.2.1 rfl ?_
            refine kz_iload_n (M := kt_M251) kX2_token_c5.2.2.2.2.2.2.2.1 rfl ?_
            refine kz_iload_n (M := kt_M251) kX2_token_c6.1 rfl ?_
            refine kz_iload_n (M := kt_M251) kX2_token_c6.2.1 rfl ?_
            refine kz_cv1 (M := kt_M251) (c := 1) (o := 0) (As := [.int x1, .int x2, .int x3]) (rest := []) kX2_token_c6.2.2.1 wl_X2_141 wMv_237 rfl (.inl rfl) rfl (Nat.le_trans (Nat.le_of_ble_eq_true rfl) hL) (Nat.le_of_ble_eq_true rfl) (Nat.le_of_ble_eq_true rfl) h (fun v8 w7 hle h => ?_) (fun _ _ _ h => kzx_no rfl h)
            have h := h hle
            refine kz_goto (M := kt_M251) kX2_token_c6.2.2.2.1 (t := 106) rfl ?_
            exact kz_weak [(0, .ref (w_adr E.2.1 1 0)), (3, .int x3)] ⟨rfl, ⟨rfl, trivial⟩⟩ rfl (zt_X2_token_p106 hL  h)
        · skip
          refine kz_aload_n (M := kt_M251) kX2_token_c4.2.2.2.2.2.1 rfl ?_
          refine kz_iload_n (M := kt_M251) kX2_token_c4.2.2.2.2.2.2.1 rfl ?_
          refine kz_iload_n (M := kt_M251) kX2_token_c4.2.2.2.2.2.2.2.1 rfl ?_
          refine kz_iload_n (M := kt_M251) kX2_token_c5.1 rfl ?_
          refine kz_cv1 (M := kt_M251) (c := 1) (o := 0) (As := [.int x1, .int x2, .int x3]) (rest := []) kX2_token_c5.2.1 wl_X2_138 wMv_250 rfl (.inl rfl) rfl (Nat.le_trans (Nat.le_of_ble_eq_true rfl) hL) (Nat.le_of_ble_eq_true rfl) (Nat.le_of_ble_eq_true rfl) h (fun v10 w9 hle h => ?_) (fun _ _ _ h => kzx_no rfl h)
          have h := h hle
          refine kz_goto (M := kt_M251) kX2_token_c5.2.2.1 (t := 106) rfl ?_
          exact kz_weak [(0, .ref (w_adr E.2.1 1 0)), (3, .int x3)] ⟨rfl, ⟨rfl, trivial⟩⟩ rfl (zt_X2_token_p106 hL  h)
      · skip
        refine kz_aload_n (M := kt_M251) kX2_token_c3.2.2.2.2.1 rfl ?_
        refine kz_iload_n (M := kt_M251) kX2_token_c3.2.2.2.2.2.1 rfl ?_
        refine kz_iload_n (M := kt_M251) kX2_token_c3.2.2.2.2.2.2.1 rfl ?_
        refine kz_iload_n (M := kt_M251) kX2_token_c3.2.2.2.2.2.2.2.1 rfl ?_
        refine kz_cv1 (M := kt_M251) (c := 1) (o := 0) (As := [.int x1, .int x2, .int x3]) (rest := []) kX2_token_c4.1 wl_X2_135 wMv_249 rfl (.inl rfl) rfl (Nat.le_trans (Nat.le_of_ble_eq_true rfl) hL) (Nat.le_of_ble_eq_true rfl) (Nat.le_of_ble_eq_true rfl) h (fun v12 w11 hle h => ?_) (fun _ _ _ h => kzx_no rfl h)
        have h := h hle
        refine kz_goto (M := kt_M251) kX2_token_c4.2.1 (t := 106) rfl ?_
        exact kz_weak [(0, .ref (w_adr E.2.1 1 0)), (3, .int x3)] ⟨rfl, ⟨rfl, trivial⟩⟩ rfl (zt_X2_token_p106 hL  h)
    · skip
      refine kz_aload_n (M := kt_M251) kX2_token_c2.2.2.2.1 rfl ?_
      refine kz_iload_n (M := kt_M251) kX2_token_c2.2.2.2.2.1 rfl ?_
      refine kz_iload_n (M := kt_M251) kX2_token_c2.2.2.2.2.2.1 rfl ?_
      refine kz_iload_n (M := kt_M251) kX2_token_c2.2.2.2.2.2.2.1 rfl ?_
      refine kz_cv1 (M := kt_M251) (c := 1) (o := 0) (As := [.int x1, .int x2, .int x3]) (rest := []) kX2_token_c2.2.2.2.2.2.2.2.1 wl_X2_132 wMv_245 rfl (.inl rfl) rfl (Nat.le_trans (Nat.le_of_ble_eq_true rfl) hL) (Nat.le_of_ble_eq_true rfl) (Nat.le_of_ble_eq_true rfl) h (fun v14 w13 hle h => ?_) (fun _ _ _ h => kzx_no rfl h)
      have h := h hle
      refine kz_goto (M := kt_M251) kX2_token_c3.1 (t := 106) rfl ?_
      exact kz_weak [(0, .ref (w_adr E.2.1 1 0)), (3, .int x3)] ⟨rfl, ⟨rfl, trivial⟩⟩ rfl (zt_X2_token_p106 hL  h)
  · skip
    refine kz_aload_n (M := kt_M251) kX2_token_c1.2.2.1 rfl ?_
    refine kz_iload_n (M := kt_M251) kX2_token_c1.2.2.2.1 rfl ?_
    refine kz_iload_n (M := kt_M251) kX2_token_c1.2.2.2.2.1 rfl ?_
    refine kz_iload_n (M := kt_M251) kX2_token_c1.2.2.2.2.2.1 rfl ?_
    refine kz_cv1 (M := kt_M251) (c := 1) (o := 0) (As := [.int x1, .int x2, .int x3]) (rest := []) kX2_token_c1.2.2.2.2.2.2.1 wl_X2_129 wMv_252 rfl (.inl rfl) rfl (Nat.le_trans (Nat.le_of_ble_eq_true rfl) hL) (Nat.le_of_ble_eq_true rfl) (Nat.le_of_ble_eq_true rfl) h (fun v16 w15 hle h => ?_) (fun _ _ _ h => kzx_no rfl h)
    have h := h hle
    refine kz_goto (M := kt_M251) kX2_token_c1.2.2.2.2.2.2.2.1 (t := 106) rfl ?_
    exact kz_weak [(0, .ref (w_adr E.2.1 1 0)), (3, .int x3)] ⟨rfl, ⟨rfl, trivial⟩⟩ rfl (zt_X2_token_p106 hL  h)
def zb_X2_isLetter_p29 (E : zE) (L : Nat) (Q : kx_Rs → wS → Prop) (y0 : Int32) (w : wS) : Prop := ((y0 = 0 ∨ y0 = 1) ∧ Q (.inl (some (.int y0))) w)
theorem zt_X2_isLetter_p29 {E : zE} {L : Nat} {Q : kx_Rs → wS → Prop} {y0 : Int32} {w : wS} (hL : 19 ≤ L) (h : zb_X2_isLetter_p29 E L Q y0 w) : kzE E L kt_M241 29 [] [.int y0] w Q := by
  unfold zb_X2_isLetter_p29 at h
  exact kz_iretz (M := kt_M241) kX2_isLetter_c1.2.2.2.2.2.2.2.1 rfl h.1 h.2
def zb_X2_isLetter_p28 (E : zE) (L : Nat) (Q : kx_Rs → wS → Prop) (w : wS) : Prop := zb_X2_isLetter_p29 E L Q 0 w
theorem zt_X2_isLetter_p28 {E : zE} {L : Nat} {Q : kx_Rs → wS → Prop} {w : wS} (hL : 19 ≤ L) (h : zb_X2_isLetter_p28 E L Q  w) : kzE E L kt_M241 28 [] [] w Q := by
  unfold zb_X2_isLetter_p28 at h
  refine kz_ic (M := kt_M241) 0 kX2_isLetter_c1.2.2.2.2.2.2.1 rfl ?_
  exact kz_weak [] trivial rfl (zt_X2_isLetter_p29 hL  h)
def zb_X2_isLetter_p24 (E : zE) (L : Nat) (Q : kx_Rs → wS → Prop) (w : wS) : Prop := zb_X2_isLetter_p29 E L Q 1 w
theorem zt_X2_isLetter_p24 {E : zE} {L : Nat} {Q : kx_Rs → wS → Prop} {w : wS} (hL : 19 ≤ L) (h : zb_X2_isLetter_p24 E L Q  w) : kzE E L kt_M241 24 [] [] w Q := by
  unfold zb_X2_isLetter_p24 at h
  refine kz_ic (M := kt_M241) 1 kX2_isLetter_c1.2.2.2.2.1 rfl ?_
  refine kz_goto (M := kt_M241) kX2_isLetter_c1.2.2.2.2.2.1 (t := 29) rfl ?_
  exact kz_weak [] trivial rfl (zt_X2_isLetter_p29 hL  h)
def zb_X2_isLetter_p12 (E : zE) (L : Nat) (Q : kx_Rs → wS → Prop) (x0 : Int32) (w : wS) : Prop := (if x0 < 65 then zb_X2_isLetter_p28 E L Q w else (if 90 < x0 then zb_X2_isLetter_p28 E L Q w else zb_X2_isLetter_p24 E L Q w))
theorem zt_X2_isLetter_p12 {E : zE} {L : Nat} {Q : kx_Rs → wS → Prop} {x0 : Int32} {w : wS} (hL : 19 ≤ L) (h : zb_X2_isLetter_p12 E L Q x0 w) : kzE E L kt_M241 12 [(0, .int x0)] [] w Q := by
  unfold zb_X2_isLetter_p12 at h
  refine kz_iload_n (M := kt_M241) kX2_isLetter_c0.2.2.2.2.2.2.1 rfl ?_
  refine kz_bi (M := kt_M241) 65 kX2_isLetter_c0.2.2.2.2.2.2.2.1 rfl ?_
  refine kz_icmp_lt (M := kt_M241) kX2_isLetter_c1.1 (t := 28) rfl h (fun h => ?_) (fun h => ?_)
  · skip
    exact kz_weak [] trivial rfl (zt_X2_isLetter_p28 hL  h)
  · skip
    refine kz_iload_n (M := kt_M241) kX2_isLetter_c1.2.1 rfl ?_
    refine kz_bi (M := kt_M241) 90 kX2_isLetter_c1.2.2.1 rfl ?_
    refine kz_icmp_gt (M := kt_M241) kX2_isLetter_c1.2.2.2.1 (t := 28) rfl h (fun h => ?_) (fun h => ?_)
    · skip
      exact kz_weak [] trivial rfl (zt_X2_isLetter_p28 hL  h)
    · skip
      exact kz_weak [] trivial rfl (zt_X2_isLetter_p24 hL  h)
def zb_X2_isLetter_p0 (E : zE) (L : Nat) (Q : kx_Rs → wS → Prop) (x0 : Int32) (w : wS) : Prop := (if x0 < 97 then zb_X2_isLetter_p12 E L Q x0 w else (if x0 ≤ 122 then zb_X2_isLetter_p24 E L Q w else zb_X2_isLetter_p12 E L Q x0 w))
theorem zt_X2_isLetter_p0 {E : zE} {L : Nat} {Q : kx_Rs → wS → Prop} {x0 : Int32} {w : wS} (hL : 19 ≤ L) (h : zb_X2_isLetter_p0 E L Q x0 w) : kzE E L kt_M241 0 [(0, .int x0)] [] w Q := by
  unfold zb_X2_isLetter_p0 at h
  refine kz_iload_n (M := kt_M241) kX2_isLetter_c0.1 rfl ?_
  refine kz_bi (M := kt_M241) 97 kX2_isLetter_c0.2.1 rfl ?_
  refine kz_icmp_lt (M := kt_M241) kX2_isLetter_c0.2.2.1 (t := 12) rfl h (fun h => ?_) (fun h => ?_)
  · skip
    exact kz_weak [(0, .int x0)] ⟨rfl, trivial⟩ rfl (zt_X2_isLetter_p12 hL  h)
  · skip
    refine kz_iload_n (M := kt_M241) kX2_isLetter_c0.2.2.2.1 rfl ?_
    refine kz_bi (M := kt_M241) 122 kX2_isLetter_c0.2.2.2.2.1 rfl ?_
    refine kz_icmp_le (M := kt_M241) kX2_isLetter_c0.2.2.2.2.2.1 (t := 24) rfl h (fun h => ?_) (fun h => ?_)
    · skip
      exact kz_weak [] trivial rfl (zt_X2_isLetter_p24 hL  h)
    · skip
      exact kz_weak [(0, .int x0)] ⟨rfl, trivial⟩ rfl (zt_X2_isLetter_p12 hL  h)
def zL_X2_word_p3 (E : zE) (L : Nat) (Q : kx_Rs → wS → Prop) (x1 : Int32) (x2 : Int32) (x3 : Int32) (x4 : Int32) (w : wS) : Prop := kzE E L kt_M252 3 [(0, .ref (w_adr E.2.1 1 0)), (1, .int x1), (2, .int x2), (3, .int x3), (4, .int x4)] [] w Q
def zb_X2_word_p75 (E : zE) (L : Nat) (Q : kx_Rs → wS → Prop) (x3 : Int32) (x4 : Int32) (x5 : Int32) (y0 : Option Nat) (w : wS) : Prop := zw E (L - 24) kt_M236 [.ref (w_adr E.2.1 1 0), va_rf (y0), .int x5, .int 0, .int x3] w (wk0 (fun w1 => wle w w1 → Q (.inl (some (.int x4))) w1) (fun e w => Q (.inr e) w))
theorem zt_X2_word_p75 {E : zE} {L : Nat} {Q : kx_Rs → wS → Prop} {x3 : Int32} {x4 : Int32} {x5 : Int32} {y0 : Option Nat} {w : wS} (hL : 27 ≤ L) (h : zb_X2_word_p75 E L Q x3 x4 x5 y0 w) : kzE E L kt_M252 75 [(0, .ref (w_adr E.2.1 1 0)), (3, .int x3), (4, .int x4), (5, .int x5)] [va_rf (y0), .ref (w_adr E.2.1 1 0)] w Q := by
  unfold zb_X2_word_p75 at h
  refine kz_iload (M := kt_M252) kX2_word_c4.2.2.2.2.2.2.1 rfl ?_
  refine kz_ic (M := kt_M252) 0 kX2_word_c4.2.2.2.2.2.2.2.1 rfl ?_
  refine kz_iload_n (M := kt_M252) kX2_word_c5.1 rfl ?_
  refine kz_cv0 (M := kt_M252) (c := 1) (o := 0) (As := [va_rf (y0), .int x5, .int 0, .int x3]) (rest := []) kX2_word_c5.2.1 wl_X2_118 wMv_236 rfl (.inl rfl) rfl (Nat.le_trans (Nat.le_of_ble_eq_true rfl) hL) (by simp [lg_sl, w_cat, z_ci, z_cr, z_cl, z_cn, kt_M236]) (Nat.le_of_ble_eq_true rfl) h (fun w1 hle h => ?_) (fun _ _ _ h => kzx_no rfl h)
  have h := h hle
  refine kz_iload (M := kt_M252) kX2_word_c5.2.2.1 rfl ?_
  exact kz_iret (M := kt_M252) kX2_word_c5.2.2.2.1 rfl rfl h
def zb_X2_word_p32 (E : zE) (L : Nat) (Q : kx_Rs → wS → Prop) (x1 : Int32) (x3 : Int32) (x4 : Int32) (w : wS) : Prop := (if (x4 - x1) ≤ 16 then zw E (L - 27) kt_M244 [.ref (w_adr E.2.1 1 0), .ref (E.2.1 1256), .int x1, .int (x4 - x1)] w (wk1 (fun v2 w1 => wle w w1 → (if 36 ≤ v2 then zb_X2_word_p75 E L Q x3 x4 v2 (some (E.1.1 1)) w1 else zb_X2_word_p75 E L Q x3 x4 v2 (some (E.1.1 0)) w1)) (fun e w => Q (.inr e) w)) else Q (.inl (some (.int (-1)))) w)
theorem zt_X2_word_p32 {E : zE} {L : Nat} {Q : kx_Rs → wS → Prop} {x1 : Int32} {x3 : Int32} {x4 : Int32} {w : wS} (hL : 27 ≤ L) (h : zb_X2_word_p32 E L Q x1 x3 x4 w) : kzE E L kt_M252 32 [(0, .ref (w_adr E.2.1 1 0)), (1, .int x1), (3, .int x3), (4, .int x4)] [] w Q := by
  unfold zb_X2_word_p32 at h
  refine kz_iload (M := kt_M252) kX2_word_c1.2.2.2.2.2.2.2.1 rfl ?_
  refine kz_iload_n (M := kt_M252) kX2_word_c2.1 rfl ?_
  refine kz_isub (M := kt_M252) kX2_word_c2.2.1 ?_
  refine kz_bi (M := kt_M252) 16 kX2_word_c2.2.2.1 rfl ?_
  refine kz_icmp_le (M := kt_M252) kX2_word_c2.2.2.2.1 (t := 43) rfl h (fun h => ?_) (fun h => ?_)
  · skip
    refine kz_aload_n (M := kt_M252) kX2_word_c2.2.2.2.2.2.2.1 rfl ?_
    refine kz_aload_n (M := kt_M252) kX2_word_c2.2.2.2.2.2.2.2.1 rfl ?_
    refine kz_gfc (M := kt_M252) (x := 1256) (c := 1) (o := 0) kX2_word_c3.1 wf_X2_11 (.inl rfl) ?_
    refine kz_iload_n (M := kt_M252) kX2_word_c3.2.1 rfl ?_
    refine kz_iload (M := kt_M252) kX2_word_c3.2.2.1 rfl ?_
    refine kz_iload_n (M := kt_M252) kX2_word_c3.2.2.2.1 rfl ?_
    refine kz_isub (M := kt_M252) kX2_word_c3.2.2.2.2.1 ?_
    refine kz_cv1 (M := kt_M252) (c := 1) (o := 0) (As := [.ref (E.2.1 1256), .int x1, .int (x4 - x1)]) (rest := []) kX2_word_c3.2.2.2.2.2.1 wl_X2_91 wMv_244 rfl (.inl rfl) rfl (Nat.le_trans (Nat.le_of_ble_eq_true rfl) hL) (Nat.le_of_ble_eq_true rfl) (Nat.le_of_ble_eq_true rfl) h (fun v2 w1 hle h => ?_) (fun _ _ _ h => kzx_no rfl h)
    have h := h hle
    refine kz_sti (M := kt_M252) [(0, .ref (w_adr E.2.1 1 0)), (3, .int x3), (4, .int x4)] kX2_word_c3.2.2.2.2.2.2.1 (Nat.le_of_ble_eq_true rfl) ⟨⟨rfl, rfl, .inl rfl⟩, ⟨⟨rfl, rfl, .inl rfl⟩, ⟨⟨rfl, rfl, .inr rfl⟩, trivial⟩⟩⟩ rfl ?_
    refine kz_aload_n (M := kt_M252) kX2_word_c3.2.2.2.2.2.2.2.1 rfl ?_
    refine kz_iload (M := kt_M252) kX2_word_c4.1 rfl ?_
    refine kz_bi (M := kt_M252) 36 kX2_word_c4.2.1 rfl ?_
    refine kz_icmp_ge (M := kt_M252) kX2_word_c4.2.2.1 (t := 72) rfl h (fun h => ?_) (fun h => ?_)
    · skip
      refine kz_getsE (M := kt_M252) (v := va_rf (some (E.1.1 1))) kX2_word_c4.2.2.2.2.2.1 zs_X2_156 ?_
      exact kz_weak [(0, .ref (w_adr E.2.1 1 0)), (3, .int x3), (4, .int x4), (5, .int v2)] ⟨rfl, ⟨rfl, ⟨rfl, ⟨rfl, trivial⟩⟩⟩⟩ rfl (zt_X2_word_p75 hL  h)
    · skip
      refine kz_getsE (M := kt_M252) (v := va_rf (some (E.1.1 0))) kX2_word_c4.2.2.2.1 zs_X2_153 ?_
      refine kz_goto (M := kt_M252) kX2_word_c4.2.2.2.2.1 (t := 75) rfl ?_
      exact kz_weak [(0, .ref (w_adr E.2.1 1 0)), (3, .int x3), (4, .int x4), (5, .int v2)] ⟨rfl, ⟨rfl, ⟨rfl, ⟨rfl, trivial⟩⟩⟩⟩ rfl (zt_X2_word_p75 hL  h)
  · skip
    refine kz_ic (M := kt_M252) (-1) kX2_word_c2.2.2.2.2.1 rfl ?_
    exact kz_iret (M := kt_M252) kX2_word_c2.2.2.2.2.2.1 rfl rfl h
def zb_X2_word_p3 (E : zE) (L : Nat) (Q : kx_Rs → wS → Prop) (x1 : Int32) (x2 : Int32) (x3 : Int32) (x4 : Int32) (w : wS) : Prop := (if x2 ≤ x4 then zb_X2_word_p32 E L Q x1 x3 x4 w else (kx_inb x4 (w_n w 1 0 0) = true ∧ zw E (L - 20) kt_M242 [.int ((w_a w 1 0 0 (x4).toNatClampNeg) &&& 255)] w (wk1 (fun v2 w1 => wle w w1 → (if v2 = 0 then zb_X2_word_p32 E L Q x1 x3 x4 w1 else zL_X2_word_p3 E L Q x1 x2 x3 (x4 + 1) w1)) (fun e w => Q (.inr e) w))))
theorem zt_X2_word_p3 {E : zE} {L : Nat} {Q : kx_Rs → wS → Prop} {x1 : Int32} {x2 : Int32} {x3 : Int32} {x4 : Int32} {w : wS} (hL : 27 ≤ L) (h : zb_X2_word_p3 E L Q x1 x2 x3 x4 w) : kzE E L kt_M252 3 [(0, .ref (w_adr E.2.1 1 0)), (1, .int x1), (2, .int x2), (3, .int x3), (4, .int x4)] [] w Q := by
  unfold zb_X2_word_p3 at h
  refine kz_iload (M := kt_M252) kX2_word_c0.2.2.1 rfl ?_
  refine kz_iload_n (M := kt_M252) kX2_word_c0.2.2.2.1 rfl ?_
  refine kz_icmp_ge (M := kt_M252) kX2_word_c0.2.2.2.2.1 (t := 32) rfl h (fun h => ?_) (fun h => ?_)
  · skip
    exact kz_weak [(0, .ref (w_adr E.2.1 1 0)), (1, .int x1), (3, .int x3), (4, .int x4)] ⟨rfl, ⟨rfl, ⟨rfl, ⟨rfl, trivial⟩⟩⟩⟩ rfl (zt_X2_word_p32 hL  h)
  · skip
    refine kz_aload_n (M := kt_M252) kX2_word_c0.2.2.2.2.2.1 rfl ?_
    refine kz_gfc (M := kt_M252) (x := 1256) (c := 1) (o := 0) kX2_word_c0.2.2.2.2.2.2.1 wf_X2_11 (.inl rfl) ?_
    refine kz_iload (M := kt_M252) kX2_word_c0.2.2.2.2.2.2.2.1 rfl ?_
    refine kz_bald (M := kt_M252) (c := 1) (o := 0) (k := 0) (a := (E.2.1 1256)) kX2_word_c1.1 ow_1_0_0 oa_1_0_0 ot_1 h (fun h => ?_)
    refine kz_si (M := kt_M252) 255 kX2_word_c1.2.1 rfl ?_
    refine kz_iand (M := kt_M252) kX2_word_c1.2.2.1 ?_
    refine kz_cs1 (M := kt_M252) (As := [.int ((w_a w 1 0 0 (x4).toNatClampNeg) &&& 255)]) (rest := []) kX2_word_c1.2.2.2.1 wl_X2_150 wMs_242 rfl (Nat.le_trans (Nat.le_of_ble_eq_true rfl) hL) (Nat.le_of_ble_eq_true rfl) (Nat.le_of_ble_eq_true rfl) h (fun v2 w1 hle h => ?_) (fun _ _ _ h => kzx_no rfl h)
    have h := h hle
    refine kz_if_eq (M := kt_M252) kX2_word_c1.2.2.2.2.1 (t := 32) rfl h (fun h => ?_) (fun h => ?_)
    · skip
      exact kz_weak [(0, .ref (w_adr E.2.1 1 0)), (1, .int x1), (3, .int x3), (4, .int x4)] ⟨rfl, ⟨rfl, ⟨rfl, ⟨rfl, trivial⟩⟩⟩⟩ rfl (zt_X2_word_p32 hL  h)
    · skip
      refine kz_inc (M := kt_M252) [(0, .ref (w_adr E.2.1 1 0)), (1, .int x1), (2, .int x2), (3, .int x3)] kX2_word_c1.2.2.2.2.2.1 rfl (Nat.le_of_ble_eq_true rfl) ⟨⟨rfl, rfl, .inl rfl⟩, ⟨⟨rfl, rfl, .inl rfl⟩, ⟨⟨rfl, rfl, .inl rfl⟩, ⟨⟨rfl, rfl, .inr rfl⟩, trivial⟩⟩⟩⟩ rfl ?_
      refine kz_goto (M := kt_M252) kX2_word_c1.2.2.2.2.2.2.1 (t := 3) rfl ?_
      exact kz_weak [(0, .ref (w_adr E.2.1 1 0)), (1, .int x1), (2, .int x2), (3, .int x3), (4, .int (x4 + 1))] ⟨rfl, ⟨rfl, ⟨rfl, ⟨rfl, ⟨rfl, trivial⟩⟩⟩⟩⟩ rfl h
def zb_X2_word_p0 (E : zE) (L : Nat) (Q : kx_Rs → wS → Prop) (x1 : Int32) (x2 : Int32) (x3 : Int32) (w : wS) : Prop := zL_X2_word_p3 E L Q x1 x2 x3 x1 w
theorem zt_X2_word_p0 {E : zE} {L : Nat} {Q : kx_Rs → wS → Prop} {x1 : Int32} {x2 : Int32} {x3 : Int32} {w : wS} (hL : 27 ≤ L) (h : zb_X2_word_p0 E L Q x1 x2 x3 w) : kzE E L kt_M252 0 [(0, .ref (w_adr E.2.1 1 0)), (1, .int x1), (2, .int x2), (3, .int x3)] [] w Q := by
  unfold zb_X2_word_p0 at h
  refine kz_iload_n (M := kt_M252) kX2_word_c0.1 rfl ?_
  refine kz_sti (M := kt_M252) [(0, .ref (w_adr E.2.1 1 0)), (1, .int x1), (2, .int x2), (3, .int x3)] kX2_word_c0.2.1 (Nat.le_of_ble_eq_true rfl) ⟨⟨rfl, rfl, .inl rfl⟩, ⟨⟨rfl, rfl, .inl rfl⟩, ⟨⟨rfl, rfl, .inl rfl⟩, ⟨⟨rfl, rfl, .inr rfl⟩, trivial⟩⟩⟩⟩ rfl ?_
  exact kz_weak [(0, .ref (w_adr E.2.1 1 0)), (1, .int x1), (2, .int x2), (3, .int x3), (4, .int x1)] ⟨rfl, ⟨rfl, ⟨rfl, ⟨rfl, ⟨rfl, trivial⟩⟩⟩⟩⟩ rfl h
def zb_X2_isNamed_p25 (E : zE) (L : Nat) (Q : kx_Rs → wS → Prop) (y0 : Int32) (w : wS) : Prop := ((y0 = 0 ∨ y0 = 1) ∧ Q (.inl (some (.int y0))) w)
theorem zt_X2_isNamed_p25 {E : zE} {L : Nat} {Q : kx_Rs → wS → Prop} {y0 : Int32} {w : wS} (hL : 20 ≤ L) (h : zb_X2_isNamed_p25 E L Q y0 w) : kzE E L kt_M242 25 [] [.int y0] w Q := by
  unfold zb_X2_isNamed_p25 at h
  exact kz_iretz (M := kt_M242) kX2_isNamed_c1.2.2.2.2.1 rfl h.1 h.2
def zb_X2_isNamed_p20 (E : zE) (L : Nat) (Q : kx_Rs → wS → Prop) (w : wS) : Prop := zb_X2_isNamed_p25 E L Q 1 w
theorem zt_X2_isNamed_p20 {E : zE} {L : Nat} {Q : kx_Rs → wS → Prop} {w : wS} (hL : 20 ≤ L) (h : zb_X2_isNamed_p20 E L Q  w) : kzE E L kt_M242 20 [] [] w Q := by
  unfold zb_X2_isNamed_p20 at h
  refine kz_ic (M := kt_M242) 1 kX2_isNamed_c1.2.1 rfl ?_
  refine kz_goto (M := kt_M242) kX2_isNamed_c1.2.2.1 (t := 25) rfl ?_
  exact kz_weak [] trivial rfl (zt_X2_isNamed_p25 hL  h)
def zb_X2_isNamed_p0 (E : zE) (L : Nat) (Q : kx_Rs → wS → Prop) (x0 : Int32) (w : wS) : Prop := zw E (L - 20) kt_M241 [.int x0] w (wk1 (fun v2 w1 => wle w w1 → (if ¬ v2 = 0 then zb_X2_isNamed_p20 E L Q w1 else zw E (L - 20) kt_M240 [.int x0] w1 (wk1 (fun v4 w3 => wle w1 w3 → (if ¬ v4 = 0 then zb_X2_isNamed_p20 E L Q w3 else (if ¬ x0 = 46 then zb_X2_isNamed_p25 E L Q 0 w3 else zb_X2_isNamed_p20 E L Q w3))) (fun e w => Q (.inr e) w)))) (fun e w => Q (.inr e) w))
theorem zt_X2_isNamed_p0 {E : zE} {L : Nat} {Q : kx_Rs → wS → Prop} {x0 : Int32} {w : wS} (hL : 20 ≤ L) (h : zb_X2_isNamed_p0 E L Q x0 w) : kzE E L kt_M242 0 [(0, .int x0)] [] w Q := by
  unfold zb_X2_isNamed_p0 at h
  refine kz_iload_n (M := kt_M242) kX2_isNamed_c0.1 rfl ?_
  refine kz_cs1 (M := kt_M242) (As := [.int x0]) (rest := []) kX2_isNamed_c0.2.1 wl_X2_57 wMs_241 rfl (Nat.le_trans (Nat.le_of_ble_eq_true rfl) hL) (Nat.le_of_ble_eq_true rfl) (Nat.le_of_ble_eq_true rfl) h (fun v2 w1 hle h => ?_) (fun _ _ _ h => kzx_no rfl h)
  have h := h hle
  refine kz_if_ne (M := kt_M242) kX2_isNamed_c0.2.2.1 (t := 20) rfl h (fun h => ?_) (fun h => ?_)
  · skip
    exact kz_weak [] trivial rfl (zt_X2_isNamed_p20 hL  h)
  · skip
    refine kz_iload_n (M := kt_M242) kX2_isNamed_c0.2.2.2.1 rfl ?_
    refine kz_cs1 (M := kt_M242) (As := [.int x0]) (rest := []) kX2_isNamed_c0.2.2.2.2.1 wl_X2_61 wMs_240 rfl (Nat.le_trans (Nat.le_of_ble_eq_true rfl) hL) (Nat.le_of_ble_eq_true rfl) (Nat.le_of_ble_eq_true rfl) h (fun v4 w3 hle h => ?_) (fun _ _ _ h => kzx_no rfl h)
    have h := h hle
    refine kz_if_ne (M := kt_M242) kX2_isNamed_c0.2.2.2.2.2.1 (t := 20) rfl h (fun h => ?_) (fun h => ?_)
    · skip
      exact kz_weak [] trivial rfl (zt_X2_isNamed_p20 hL  h)
    · skip
      refine kz_iload_n (M := kt_M242) kX2_isNamed_c0.2.2.2.2.2.2.1 rfl ?_
      refine kz_bi (M := kt_M242) 46 kX2_isNamed_c0.2.2.2.2.2.2.2.1 rfl ?_
      refine kz_icmp_ne (M := kt_M242) kX2_isNamed_c1.1 (t := 24) rfl h (fun h => ?_) (fun h => ?_)
      · skip
        refine kz_ic (M := kt_M242) 0 kX2_isNamed_c1.2.2.2.1 rfl ?_
        exact kz_weak [] trivial rfl (zt_X2_isNamed_p25 hL  h)
      · skip
        exact kz_weak [] trivial rfl (zt_X2_isNamed_p20 hL  h)
def zb_X2_isDigit_p17 (E : zE) (L : Nat) (Q : kx_Rs → wS → Prop) (y0 : Int32) (w : wS) : Prop := ((y0 = 0 ∨ y0 = 1) ∧ Q (.inl (some (.int y0))) w)
theorem zt_X2_isDigit_p17 {E : zE} {L : Nat} {Q : kx_Rs → wS → Prop} {y0 : Int32} {w : wS} (hL : 19 ≤ L) (h : zb_X2_isDigit_p17 E L Q y0 w) : kzE E L kt_M240 17 [] [.int y0] w Q := by
  unfold zb_X2_isDigit_p17 at h
  exact kz_iretz (M := kt_M240) kX2_isDigit_c1.2.1 rfl h.1 h.2
def zb_X2_isDigit_p16 (E : zE) (L : Nat) (Q : kx_Rs → wS → Prop) (w : wS) : Prop := zb_X2_isDigit_p17 E L Q 0 w
theorem zt_X2_isDigit_p16 {E : zE} {L : Nat} {Q : kx_Rs → wS → Prop} {w : wS} (hL : 19 ≤ L) (h : zb_X2_isDigit_p16 E L Q  w) : kzE E L kt_M240 16 [] [] w Q := by
  unfold zb_X2_isDigit_p16 at h
  refine kz_ic (M := kt_M240) 0 kX2_isDigit_c1.1 rfl ?_
  exact kz_weak [] trivial rfl (zt_X2_isDigit_p17 hL  h)
def zb_X2_isDigit_p0 (E : zE) (L : Nat) (Q : kx_Rs → wS → Prop) (x0 : Int32) (w : wS) : Prop := (if x0 < 48 then zb_X2_isDigit_p16 E L Q w else (if 57 < x0 then zb_X2_isDigit_p16 E L Q w else zb_X2_isDigit_p17 E L Q 1 w))
theorem zt_X2_isDigit_p0 {E : zE} {L : Nat} {Q : kx_Rs → wS → Prop} {x0 : Int32} {w : wS} (hL : 19 ≤ L) (h : zb_X2_isDigit_p0 E L Q x0 w) : kzE E L kt_M240 0 [(0, .int x0)] [] w Q := by
  unfold zb_X2_isDigit_p0 at h
  refine kz_iload_n (M := kt_M240) kX2_isDigit_c0.1 rfl ?_
  refine kz_bi (M := kt_M240) 48 kX2_isDigit_c0.2.1 rfl ?_
  refine kz_icmp_lt (M := kt_M240) kX2_isDigit_c0.2.2.1 (t := 16) rfl h (fun h => ?_) (fun h => ?_)
  · skip
    exact kz_weak [] trivial rfl (zt_X2_isDigit_p16 hL  h)
  · skip
    refine kz_iload_n (M := kt_M240) kX2_isDigit_c0.2.2.2.1 rfl ?_
    refine kz_bi (M := kt_M240) 57 kX2_isDigit_c0.2.2.2.2.1 rfl ?_
    refine kz_icmp_gt (M := kt_M240) kX2_isDigit_c0.2.2.2.2.2.1 (t := 16) rfl h (fun h => ?_) (fun h => ?_)
    · skip
      exact kz_weak [] trivial rfl (zt_X2_isDigit_p16 hL  h)
    · skip
      refine kz_ic (M := kt_M240) 1 kX2_isDigit_c0.2.2.2.2.2.2.1 rfl ?_
      refine kz_goto (M := kt_M240) kX2_isDigit_c0.2.2.2.2.2.2.2.1 (t := 17) rfl ?_
      exact kz_weak [] trivial rfl (zt_X2_isDigit_p17 hL  h)
def zb_X2_add_p0 (E : zE) (L : Nat) (Q : kx_Rs → wS → Prop) (x1 : Option Nat) (x2 : Int32) (x3 : Int32) (x4 : Int32) (w : wS) : Prop := (∃ i1, zO E "MeetingHouse$Sort" x1 i1 ∧ kx_inb (w_i w 1 0 7) (w_n w 1 0 2) = true ∧ (kx_inb (w_i w 1 0 7) (w_n w 1 0 3) = true ∧ (kx_inb (w_i w 1 0 7) (w_n w 1 0 4) = true ∧ (kx_inb (w_i w 1 0 7) (w_n w 1 0 5) = true ∧ (kx_inb (w_i w 1 0 7) (w_n w 1 0 6) = true ∧ Q (.inl none) (ws_i (ws_a (ws_a (ws_a (ws_a (ws_r w 1 0 2 (w_i w 1 0 7).toNatClampNeg (some (E.1.1 i1))) 1 0 3 (w_i w 1 0 7).toNatClampNeg x2) 1 0 4 (w_i w 1 0 7).toNatClampNeg x3) 1 0 5 (w_i w 1 0 7).toNatClampNeg x4) 1 0 6 (w_i w 1 0 7).toNatClampNeg 0) 1 0 7 ((w_i w 1 0 7) + 1)))))))
theorem zt_X2_add_p0 {E : zE} {L : Nat} {Q : kx_Rs → wS → Prop} {x1 : Option Nat} {x2 : Int32} {x3 : Int32} {x4 : Int32} {w : wS} (hL : 19 ≤ L) (h : zb_X2_add_p0 E L Q x1 x2 x3 x4 w) : kzE E L kt_M236 0 [(0, .ref (w_adr E.2.1 1 0)), (1, va_rf (x1)), (2, .int x2), (3, .int x3), (4, .int x4)] [] w Q := by
  unfold zb_X2_add_p0 at h
  refine kz_aload_n (M := kt_M236) kX2_add_c0.1 rfl ?_
  refine kz_gfc (M := kt_M236) (x := 1258) (c := 1) (o := 0) kX2_add_c0.2.1 wf_X2_19 (.inl rfl) ?_
  refine kz_aload_n (M := kt_M236) kX2_add_c0.2.2.1 rfl ?_
  refine kz_gfi (M := kt_M236) (c := 1) (o := 0) kX2_add_c0.2.2.2.1 wf_X2_95 (.inl rfl) ?_
  refine kz_aload_nv (M := kt_M236) (x := x1) kX2_add_c0.2.2.2.2.1 rfl ?_
  obtain ⟨i1, ho, h⟩ := h
  refine kz_aastE (M := kt_M236) (x := x1) (i0 := i1) (c := 1) (o := 0) (k := 2) (a := (E.2.1 1258)) kX2_add_c0.2.2.2.2.2.1 ow_1_0_2 oa_1_0_2 ho h (fun h => ?_)
  refine kz_aload_n (M := kt_M236) kX2_add_c0.2.2.2.2.2.2.1 rfl ?_
  refine kz_gfc (M := kt_M236) (x := 1259) (c := 1) (o := 0) kX2_add_c0.2.2.2.2.2.2.2.1 wf_X2_23 (.inl rfl) ?_
  refine kz_aload_n (M := kt_M236) kX2_add_c1.1 rfl ?_
  refine kz_gfiR (M := kt_M236) (c := 1) (o := 0) (w_i w 1 0 7) kX2_add_c1.2.1 wf_X2_95 (.inl rfl) rd_i_r ?_
  refine kz_iload_n (M := kt_M236) kX2_add_c1.2.2.1 rfl ?_
  refine kz_iastR (M := kt_M236) (n := w_n w 1 0 3) (c := 1) (o := 0) (k := 3) (a := (E.2.1 1259)) kX2_add_c1.2.2.2.1 ow_1_0_3 oa_1_0_3 ot_0 rd_n_r h (fun h => ?_)
  refine kz_aload_n (M := kt_M236) kX2_add_c1.2.2.2.2.1 rfl ?_
  refine kz_gfc (M := kt_M236) (x := 1260) (c := 1) (o := 0) kX2_add_c1.2.2.2.2.2.1 wf_X2_27 (.inl rfl) ?_
  refine kz_aload_n (M := kt_M236) kX2_add_c1.2.2.2.2.2.2.1 rfl ?_
  refine kz_gfiR (M := kt_M236) (c := 1) (o := 0) (w_i w 1 0 7) kX2_add_c1.2.2.2.2.2.2.2.1 wf_X2_95 (.inl rfl) (rd_i_a.trans rd_i_r) ?_
  refine kz_iload_n (M := kt_M236) kX2_add_c2.1 rfl ?_
  refine kz_iastR (M := kt_M236) (n := w_n w 1 0 4) (c := 1) (o := 0) (k := 4) (a := (E.2.1 1260)) kX2_add_c2.2.1 ow_1_0_4 oa_1_0_4 ot_0 (rd_n_a.trans rd_n_r) h (fun h => ?_)
  refine kz_aload_n (M := kt_M236) kX2_add_c2.2.2.1 rfl ?_
  refine kz_gfc (M := kt_M236) (x := 1261) (c := 1) (o := 0) kX2_add_c2.2.2.2.1 wf_X2_30 (.inl rfl) ?_
  refine kz_aload_n (M := kt_M236) kX2_add_c2.2.2.2.2.1 rfl ?_
  refine kz_gfiR (M := kt_M236) (c := 1) (o := 0) (w_i w 1 0 7) kX2_add_c2.2.2.2.2.2.1 wf_X2_95 (.inl rfl) (rd_i_a.trans (rd_i_a.trans rd_i_r)) ?_
  refine kz_iload (M := kt_M236) kX2_add_c2.2.2.2.2.2.2.1 rfl ?_
  refine kz_iastR (M := kt_M236) (n := w_n w 1 0 5) (c := 1) (o := 0) (k := 5) (a := (E.2.1 1261)) kX2_add_c2.2.2.2.2.2.2.2.1 ow_1_0_5 oa_1_0_5 ot_0 (rd_n_a.trans (rd_n_a.trans rd_n_r)) h (fun h => ?_)
  refine kz_aload_n (M := kt_M236) kX2_add_c3.1 rfl ?_
  refine kz_gfc (M := kt_M236) (x := 1262) (c := 1) (o := 0) kX2_add_c3.2.1 wf_X2_33 (.inl rfl) ?_
  refine kz_aload_n (M := kt_M236) kX2_add_c3.2.2.1 rfl ?_
  refine kz_gfiR (M := kt_M236) (c := 1) (o := 0) (w_i w 1 0 7) kX2_add_c3.2.2.2.1 wf_X2_95 (.inl rfl) (rd_i_a.trans (rd_i_a.trans (rd_i_a.trans rd_i_r))) ?_
  refine kz_ic (M := kt_M236) 0 kX2_add_c3.2.2.2.2.1 rfl ?_
  refine kz_iastR (M := kt_M236) (n := w_n w 1 0 6) (c := 1) (o := 0) (k := 6) (a := (E.2.1 1262)) kX2_add_c3.2.2.2.2.2.1 ow_1_0_6 oa_1_0_6 ot_0 (rd_n_a.trans (rd_n_a.trans (rd_n_a.trans rd_n_r))) h (fun h => ?_)
  refine kz_aload_n (M := kt_M236) kX2_add_c3.2.2.2.2.2.2.1 rfl ?_
  refine kz_dup (M := kt_M236) kX2_add_c3.2.2.2.2.2.2.2.1 rfl ?_
  refine kz_gfiR (M := kt_M236) (c := 1) (o := 0) (w_i w 1 0 7) kX2_add_c4.1 wf_X2_95 (.inl rfl) (rd_i_a.trans (rd_i_a.trans (rd_i_a.trans (rd_i_a.trans rd_i_r)))) ?_
  refine kz_ic (M := kt_M236) 1 kX2_add_c4.2.1 rfl ?_
  refine kz_iadd (M := kt_M236) kX2_add_c4.2.2.1 ?_
  refine kz_pfi (M := kt_M236) (c := 1) (o := 0) kX2_add_c4.2.2.2.1 wq_X2_95 (.inl rfl) ?_
  exact kz_ret (M := kt_M236) kX2_add_c4.2.2.2.2.1 rfl h
def zL_X2_number_p6 (E : zE) (L : Nat) (Q : kx_Rs → wS → Prop) (x1 : Int32) (x2 : Int32) (x3 : Int32) (x4 : Int32) (x5 : Int64) (w : wS) : Prop := kzE E L kt_M245 6 [(0, .ref (w_adr E.2.1 1 0)), (1, .int x1), (2, .int x2), (3, .int x3), (4, .int x4), (5, .long (x5))] [] w Q
def zb_X2_number_p104 (E : zE) (L : Nat) (Q : kx_Rs → wS → Prop) (x3 : Int32) (x4 : Int32) (x5 : Int64) (w : wS) : Prop := zw E (L - 24) kt_M236 [.ref (w_adr E.2.1 1 0), va_rf (some (E.1.1 2)), .int ((x5).toInt32), .int 0, .int x3] w (wk0 (fun w1 => wle w w1 → Q (.inl (some (.int x4))) w1) (fun e w => Q (.inr e) w))
theorem zt_X2_number_p104 {E : zE} {L : Nat} {Q : kx_Rs → wS → Prop} {x3 : Int32} {x4 : Int32} {x5 : Int64} {w : wS} (hL : 24 ≤ L) (h : zb_X2_number_p104 E L Q x3 x4 x5 w) : kzE E L kt_M245 104 [(0, .ref (w_adr E.2.1 1 0)), (3, .int x3), (4, .int x4), (5, .long (x5))] [] w Q := by
  unfold zb_X2_number_p104 at h
  refine kz_aload_n (M := kt_M245) kX2_number_c6.2.2.2.2.2.2.1 rfl ?_
  refine kz_getsE (M := kt_M245) (v := va_rf (some (E.1.1 2))) kX2_number_c6.2.2.2.2.2.2.2.1 zs_X2_167 ?_
  refine kz_lload (M := kt_M245) kX2_number_c7.1 rfl ?_
  refine kz_l2i (M := kt_M245) kX2_number_c7.2.1 ?_
  refine kz_ic (M := kt_M245) 0 kX2_number_c7.2.2.1 rfl ?_
  refine kz_iload_n (M := kt_M245) kX2_number_c7.2.2.2.1 rfl ?_
  refine kz_cv0 (M := kt_M245) (c := 1) (o := 0) (As := [va_rf (some (E.1.1 2)), .int ((x5).toInt32), .int 0, .int x3]) (rest := []) kX2_number_c7.2.2.2.2.1 wl_X2_118 wMv_236 rfl (.inl rfl) rfl (Nat.le_trans (Nat.le_of_ble_eq_true rfl) hL) (by simp [lg_sl, w_cat, z_ci, z_cr, z_cl, z_cn, kt_M236]) (Nat.le_of_ble_eq_true rfl) h (fun w1 hle h => ?_) (fun _ _ _ h => kzx_no rfl h)
  have h := h hle
  refine kz_iload (M := kt_M245) kX2_number_c7.2.2.2.2.2.1 rfl ?_
  exact kz_iret (M := kt_M245) kX2_number_c7.2.2.2.2.2.2.1 rfl rfl h
def zb_X2_number_p102 (E : zE) (L : Nat) (Q : kx_Rs → wS → Prop) (w : wS) : Prop := Q (.inl (some (.int (-1)))) w
theorem zt_X2_number_p102 {E : zE} {L : Nat} {Q : kx_Rs → wS → Prop} {w : wS} (hL : 24 ≤ L) (h : zb_X2_number_p102 E L Q  w) : kzE E L kt_M245 102 [(0, .ref (w_adr E.2.1 1 0))] [] w Q := by
  unfold zb_X2_number_p102 at h
  refine kz_ic (M := kt_M245) (-1) kX2_number_c6.2.2.2.2.1 rfl ?_
  exact kz_iret (M := kt_M245) kX2_number_c6.2.2.2.2.2.1 rfl rfl h
def zb_X2_number_p61 (E : zE) (L : Nat) (Q : kx_Rs → wS → Prop) (x1 : Int32) (x2 : Int32) (x3 : Int32) (x4 : Int32) (x5 : Int64) (w : wS) : Prop := (if 10 < (x4 - x1) then zb_X2_number_p102 E L Q w else (if 0 < (lg_cmp x5 2147483647) then zb_X2_number_p102 E L Q w else (if x2 ≤ x4 then zb_X2_number_p104 E L Q x3 x4 x5 w else (kx_inb x4 (w_n w 1 0 0) = true ∧ zw E (L - 20) kt_M242 [.int ((w_a w 1 0 0 (x4).toNatClampNeg) &&& 255)] w (wk1 (fun v2 w1 => wle w w1 → (if v2 = 0 then zb_X2_number_p104 E L Q x3 x4 x5 w1 else zb_X2_number_p102 E L Q w1)) (fun e w => Q (.inr e) w))))))
theorem zt_X2_number_p61 {E : zE} {L : Nat} {Q : kx_Rs → wS → Prop} {x1 : Int32} {x2 : Int32} {x3 : Int32} {x4 : Int32} {x5 : Int64} {w : wS} (hL : 24 ≤ L) (h : zb_X2_number_p61 E L Q x1 x2 x3 x4 x5 w) : kzE E L kt_M245 61 [(0, .ref (w_adr E.2.1 1 0)), (1, .int x1), (2, .int x2), (3, .int x3), (4, .int x4), (5, .long (x5))] [] w Q := by
  unfold zb_X2_number_p61 at h
  refine kz_iload (M := kt_M245) kX2_number_c4.1 rfl ?_
  refine kz_iload_n (M := kt_M245) kX2_number_c4.2.1 rfl ?_
  refine kz_isub (M := kt_M245) kX2_number_c4.2.2.1 ?_
  refine kz_bi (M := kt_M245) 10 kX2_number_c4.2.2.2.1 rfl ?_
  refine kz_icmp_gt (M := kt_M245) kX2_number_c4.2.2.2.2.1 (t := 102) rfl h (fun h => ?_) (fun h => ?_)
  · skip
    exact kz_weak [(0, .ref (w_adr E.2.1 1 0))] ⟨rfl, trivial⟩ rfl (zt_X2_number_p102 hL  h)
  · skip
    refine kz_lload (M := kt_M245) kX2_number_c4.2.2.2.2.2.1 rfl ?_
    refine kz_ldc2 (M := kt_M245) (x := 2147483647) kX2_number_c4.2.2.2.2.2.2.1 (zc_X2_165) ?_
    refine kz_lcmp (M := kt_M245) kX2_number_c4.2.2.2.2.2.2.2.1 ?_
    refine kz_if_gt (M := kt_M245) kX2_number_c5.1 (t := 102) rfl h (fun h => ?_) (fun h => ?_)
    · skip
      exact kz_weak [(0, .ref (w_adr E.2.1 1 0))] ⟨rfl, trivial⟩ rfl (zt_X2_number_p102 hL  h)
    · skip
      refine kz_iload (M := kt_M245) kX2_number_c5.2.1 rfl ?_
      refine kz_iload_n (M := kt_M245) kX2_number_c5.2.2.1 rfl ?_
      refine kz_icmp_ge (M := kt_M245) kX2_number_c5.2.2.2.1 (t := 104) rfl h (fun h => ?_) (fun h => ?_)
      · skip
        exact kz_weak [(0, .ref (w_adr E.2.1 1 0)), (3, .int x3), (4, .int x4), (5, .long (x5))] ⟨rfl, ⟨rfl, ⟨rfl, ⟨rfl, trivial⟩⟩⟩⟩ rfl (zt_X2_number_p104 hL  h)
      · skip
        refine kz_aload_n (M := kt_M245) kX2_number_c5.2.2.2.2.1 rfl ?_
        refine kz_gfc (M := kt_M245) (x := 1256) (c := 1) (o := 0) kX2_number_c5.2.2.2.2.2.1 wf_X2_11 (.inl rfl) ?_
        refine kz_iload (M := kt_M245) kX2_number_c5.2.2.2.2.2.2.1 rfl ?_
        refine kz_bald (M := kt_M245) (c := 1) (o := 0) (k := 0) (a := (E.2.1 1256)) kX2_number_c5.2.2.2.2.2.2.2.1 ow_1_0_0 oa_1_0_0 ot_1 h (fun h => ?_)
        refine kz_si (M := kt_M245) 255 kX2_number_c6.1 rfl ?_
        refine kz_iand (M := kt_M245) kX2_number_c6.2.1 ?_
        refine kz_cs1 (M := kt_M245) (As := [.int ((w_a w 1 0 0 (x4).toNatClampNeg) &&& 255)]) (rest := []) kX2_number_c6.2.2.1 wl_X2_150 wMs_242 rfl (Nat.le_trans (Nat.le_of_ble_eq_true rfl) hL) (Nat.le_of_ble_eq_true rfl) (Nat.le_of_ble_eq_true rfl) h (fun v2 w1 hle h => ?_) (fun _ _ _ h => kzx_no rfl h)
        have h := h hle
        refine kz_if_eq (M := kt_M245) kX2_number_c6.2.2.2.1 (t := 104) rfl h (fun h => ?_) (fun h => ?_)
        · skip
          exact kz_weak [(0, .ref (w_adr E.2.1 1 0)), (3, .int x3), (4, .int x4), (5, .long (x5))] ⟨rfl, ⟨rfl, ⟨rfl, ⟨rfl, trivial⟩⟩⟩⟩ rfl (zt_X2_number_p104 hL  h)
        · skip
          exact kz_weak [(0, .ref (w_adr E.2.1 1 0))] ⟨rfl, trivial⟩ rfl (zt_X2_number_p102 hL  h)
def zb_X2_number_p6 (E : zE) (L : Nat) (Q : kx_Rs → wS → Prop) (x1 : Int32) (x2 : Int32) (x3 : Int32) (x4 : Int32) (x5 : Int64) (w : wS) : Prop := (if x2 ≤ x4 then zb_X2_number_p61 E L Q x1 x2 x3 x4 x5 w else (kx_inb x4 (w_n w 1 0 0) = true ∧ zw E (L - 20) kt_M240 [.int (w_a w 1 0 0 (x4).toNatClampNeg)] w (wk1 (fun v2 w1 => wle w w1 → (if v2 = 0 then zb_X2_number_p61 E L Q x1 x2 x3 x4 x5 w1 else (if 11 ≤ (x4 - x1) then zb_X2_number_p61 E L Q x1 x2 x3 x4 x5 w1 else (kx_inb x4 (w_n w1 1 0 0) = true ∧ zL_X2_number_p6 E L Q x1 x2 x3 (x4 + 1) (((10 * x5) + ((w_a w1 1 0 0 (x4).toNatClampNeg).toInt64)) - 48) w1)))) (fun e w => Q (.inr e) w))))
theorem zt_X2_number_p6 {E : zE} {L : Nat} {Q : kx_Rs → wS → Prop} {x1 : Int32} {x2 : Int32} {x3 : Int32} {x4 : Int32} {x5 : Int64} {w : wS} (hL : 24 ≤ L) (h : zb_X2_number_p6 E L Q x1 x2 x3 x4 x5 w) : kzE E L kt_M245 6 [(0, .ref (w_adr E.2.1 1 0)), (1, .int x1), (2, .int x2), (3, .int x3), (4, .int x4), (5, .long (x5))] [] w Q := by
  unfold zb_X2_number_p6 at h
  refine kz_iload (M := kt_M245) kX2_number_c0.2.2.2.2.1 rfl ?_
  refine kz_iload_n (M := kt_M245) kX2_number_c0.2.2.2.2.2.1 rfl ?_
  refine kz_icmp_ge (M := kt_M245) kX2_number_c0.2.2.2.2.2.2.1 (t := 61) rfl h (fun h => ?_) (fun h => ?_)
  · skip
    exact kz_weak [(0, .ref (w_adr E.2.1 1 0)), (1, .int x1), (2, .int x2), (3, .int x3), (4, .int x4), (5, .long (x5))] ⟨rfl, ⟨rfl, ⟨rfl, ⟨rfl, ⟨rfl, ⟨rfl, trivial⟩⟩⟩⟩⟩⟩ rfl (zt_X2_number_p61 hL  h)
  · skip
    refine kz_aload_n (M := kt_M245) kX2_number_c0.2.2.2.2.2.2.2.1 rfl ?_
    refine kz_gfc (M := kt_M245) (x := 1256) (c := 1) (o := 0) kX2_number_c1.1 wf_X2_11 (.inl rfl) ?_
    refine kz_iload (M := kt_M245) kX2_number_c1.2.1 rfl ?_
    refine kz_bald (M := kt_M245) (c := 1) (o := 0) (k := 0) (a := (E.2.1 1256)) kX2_number_c1.2.2.1 ow_1_0_0 oa_1_0_0 ot_1 h (fun h => ?_)
    refine kz_cs1 (M := kt_M245) (As := [.int (w_a w 1 0 0 (x4).toNatClampNeg)]) (rest := []) kX2_number_c1.2.2.2.1 wl_X2_61 wMs_240 rfl (Nat.le_trans (Nat.le_of_ble_eq_true rfl) hL) (Nat.le_of_ble_eq_true rfl) (Nat.le_of_ble_eq_true rfl) h (fun v2 w1 hle h => ?_) (fun _ _ _ h => kzx_no rfl h)
    have h := h hle
    refine kz_if_eq (M := kt_M245) kX2_number_c1.2.2.2.2.1 (t := 61) rfl h (fun h => ?_) (fun h => ?_)
    · skip
      exact kz_weak [(0, .ref (w_adr E.2.1 1 0)), (1, .int x1), (2, .int x2), (3, .int x3), (4, .int x4), (5, .long (x5))] ⟨rfl, ⟨rfl, ⟨rfl, ⟨rfl, ⟨rfl, ⟨rfl, trivial⟩⟩⟩⟩⟩⟩ rfl (zt_X2_number_p61 hL  h)
    · skip
      refine kz_iload (M := kt_M245) kX2_number_c1.2.2.2.2.2.1 rfl ?_
      refine kz_iload_n (M := kt_M245) kX2_number_c1.2.2.2.2.2.2.1 rfl ?_
      refine kz_isub (M := kt_M245) kX2_number_c1.2.2.2.2.2.2.2.1 ?_
      refine kz_bi (M := kt_M245) 11 kX2_number_c2.1 rfl ?_
      refine kz_icmp_ge (M := kt_M245) kX2_number_c2.2.1 (t := 61) rfl h (fun h => ?_) (fun h => ?_)
      · skip
        exact kz_weak [(0, .ref (w_adr E.2.1 1 0)), (1, .int x1), (2, .int x2), (3, .int x3), (4, .int x4), (5, .long (x5))] ⟨rfl, ⟨rfl, ⟨rfl, ⟨rfl, ⟨rfl, ⟨rfl, trivial⟩⟩⟩⟩⟩⟩ rfl (zt_X2_number_p61 hL  h)
      · skip
        refine kz_ldc2 (M := kt_M245) (x := 10) kX2_number_c2.2.2.1 (zc_X2_159) ?_
        refine kz_lload (M := kt_M245) kX2_number_c2.2.2.2.1 rfl ?_
        refine kz_lmul (M := kt_M245) kX2_number_c2.2.2.2.2.1 ?_
        refine kz_aload_n (M := kt_M245) kX2_number_c2.2.2.2.2.2.1 rfl ?_
        refine kz_gfc (M := kt_M245) (x := 1256) (c := 1) (o := 0) kX2_number_c2.2.2.2.2.2.2.1 wf_X2_11 (.inl rfl) ?_
        refine kz_iload (M := kt_M245) kX2_number_c2.2.2.2.2.2.2.2.1 rfl ?_
        refine kz_inc (M := kt_M245) [(0, .ref (w_adr E.2.1 1 0)), (1, .int x1), (2, .int x2), (3, .int x3)] kX2_number_c3.1 rfl (Nat.le_of_ble_eq_true rfl) ⟨⟨rfl, rfl, .inl rfl⟩, ⟨⟨rfl, rfl, .inl rfl⟩, ⟨⟨rfl, rfl, .inl rfl⟩, ⟨⟨rfl, rfl, .inr rfl⟩, trivial⟩⟩⟩⟩ rfl ?_
        refine kz_bald (M := kt_M245) (c := 1) (o := 0) (k := 0) (a := (E.2.1 1256)) kX2_number_c3.2.1 ow_1_0_0 oa_1_0_0 ot_1 h (fun h => ?_)
        refine kz_i2l (M := kt_M245) kX2_number_c3.2.2.1 ?_
        refine kz_ladd (M := kt_M245) kX2_number_c3.2.2.2.1 ?_
        refine kz_ldc2 (M := kt_M245) (x := 48) kX2_number_c3.2.2.2.2.1 (zc_X2_161) ?_
        refine kz_lsub (M := kt_M245) kX2_number_c3.2.2.2.2.2.1 ?_
        refine kz_stl (M := kt_M245) [(0, .ref (w_adr E.2.1 1 0)), (1, .int x1), (2, .int x2), (3, .int x3), (4, .int (x4 + 1))] kX2_number_c3.2.2.2.2.2.2.1 (Nat.le_of_ble_eq_true rfl) ⟨⟨rfl, rfl, .inl rfl⟩, ⟨⟨rfl, rfl, .inl rfl⟩, ⟨⟨rfl, rfl, .inl rfl⟩, ⟨⟨rfl, rfl, .inl rfl⟩, ⟨⟨rfl, rfl, .inr rfl⟩, trivial⟩⟩⟩⟩⟩ rfl rfl ?_
        refine kz_goto (M := kt_M245) kX2_number_c3.2.2.2.2.2.2.2.1 (t := 6) rfl ?_
        exact kz_weak [(0, .ref (w_adr E.2.1 1 0)), (1, .int x1), (2, .int x2), (3, .int x3), (4, .int (x4 + 1)), (5, .long ((((10 * x5) + ((w_a w1 1 0 0 (x4).toNatClampNeg).toInt64)) - 48)))] ⟨rfl, ⟨rfl, ⟨rfl, ⟨rfl, ⟨rfl, ⟨rfl, trivial⟩⟩⟩⟩⟩⟩ rfl h
def zb_X2_number_p0 (E : zE) (L : Nat) (Q : kx_Rs → wS → Prop) (x1 : Int32) (x2 : Int32) (x3 : Int32) (w : wS) : Prop := zL_X2_number_p6 E L Q x1 x2 x3 x1 0 w
theorem zt_X2_number_p0 {E : zE} {L : Nat} {Q : kx_Rs → wS → Prop} {x1 : Int32} {x2 : Int32} {x3 : Int32} {w : wS} (hL : 24 ≤ L) (h : zb_X2_number_p0 E L Q x1 x2 x3 w) : kzE E L kt_M245 0 [(0, .ref (w_adr E.2.1 1 0)), (1, .int x1), (2, .int x2), (3, .int x3)] [] w Q := by
  unfold zb_X2_number_p0 at h
  refine kz_iload_n (M := kt_M245) kX2_number_c0.1 rfl ?_
  refine kz_sti (M := kt_M245) [(0, .ref (w_adr E.2.1 1 0)), (1, .int x1), (2, .int x2), (3, .int x3)] kX2_number_c0.2.1 (Nat.le_of_ble_eq_true rfl) ⟨⟨rfl, rfl, .inl rfl⟩, ⟨⟨rfl, rfl, .inl rfl⟩, ⟨⟨rfl, rfl, .inl rfl⟩, ⟨⟨rfl, rfl, .inr rfl⟩, trivial⟩⟩⟩⟩ rfl ?_
  refine kz_lconst (M := kt_M245) kX2_number_c0.2.2.1 ?_
  refine kz_stl (M := kt_M245) [(0, .ref (w_adr E.2.1 1 0)), (1, .int x1), (2, .int x2), (3, .int x3), (4, .int x1)] kX2_number_c0.2.2.2.1 (Nat.le_of_ble_eq_true rfl) ⟨⟨rfl, rfl, .inl rfl⟩, ⟨⟨rfl, rfl, .inl rfl⟩, ⟨⟨rfl, rfl, .inl rfl⟩, ⟨⟨rfl, rfl, .inl rfl⟩, ⟨⟨rfl, rfl, .inr rfl⟩, trivial⟩⟩⟩⟩⟩ rfl rfl ?_
  exact kz_weak [(0, .ref (w_adr E.2.1 1 0)), (1, .int x1), (2, .int x2), (3, .int x3), (4, .int x1), (5, .long (0))] ⟨rfl, ⟨rfl, ⟨rfl, ⟨rfl, ⟨rfl, ⟨rfl, trivial⟩⟩⟩⟩⟩⟩ rfl h
def zL_X2_sixteens_p8 (E : zE) (L : Nat) (Q : kx_Rs → wS → Prop) (x1 : Int32) (x2 : Int32) (x3 : Int32) (x4 : Int32) (x5 : Int32) (w : wS) : Prop := kzE E L kt_M249 8 [(0, .ref (w_adr E.2.1 1 0)), (1, .int x1), (2, .int x2), (3, .int x3), (4, .int x4), (5, .int x5)] [] w Q
def zb_X2_sixteens_p102 (E : zE) (L : Nat) (Q : kx_Rs → wS → Prop) (x3 : Int32) (x4 : Int32) (x5 : Int32) (w : wS) : Prop := zw E (L - 24) kt_M236 [.ref (w_adr E.2.1 1 0), va_rf (some (E.1.1 2)), .int x5, .int 0, .int x3] w (wk0 (fun w1 => wle w w1 → Q (.inl (some (.int x4))) w1) (fun e w => Q (.inr e) w))
theorem zt_X2_sixteens_p102 {E : zE} {L : Nat} {Q : kx_Rs → wS → Prop} {x3 : Int32} {x4 : Int32} {x5 : Int32} {w : wS} (hL : 24 ≤ L) (h : zb_X2_sixteens_p102 E L Q x3 x4 x5 w) : kzE E L kt_M249 102 [(0, .ref (w_adr E.2.1 1 0)), (3, .int x3), (4, .int x4), (5, .int x5)] [] w Q := by
  unfold zb_X2_sixteens_p102 at h
  refine kz_aload_n (M := kt_M249) kX2_sixteens_c7.1 rfl ?_
  refine kz_getsE (M := kt_M249) (v := va_rf (some (E.1.1 2))) kX2_sixteens_c7.2.1 zs_X2_167 ?_
  refine kz_iload (M := kt_M249) kX2_sixteens_c7.2.2.1 rfl ?_
  refine kz_ic (M := kt_M249) 0 kX2_sixteens_c7.2.2.2.1 rfl ?_
  refine kz_iload_n (M := kt_M249) kX2_sixteens_c7.2.2.2.2.1 rfl ?_
  refine kz_cv0 (M := kt_M249) (c := 1) (o := 0) (As := [va_rf (some (E.1.1 2)), .int x5, .int 0, .int x3]) (rest := []) kX2_sixteens_c7.2.2.2.2.2.1 wl_X2_118 wMv_236 rfl (.inl rfl) rfl (Nat.le_trans (Nat.le_of_ble_eq_true rfl) hL) (by simp [lg_sl, w_cat, z_ci, z_cr, z_cl, z_cn, kt_M236]) (Nat.le_of_ble_eq_true rfl) h (fun w1 hle h => ?_) (fun _ _ _ h => kzx_no rfl h)
  have h := h hle
  refine kz_iload (M := kt_M249) kX2_sixteens_c7.2.2.2.2.2.2.1 rfl ?_
  exact kz_iret (M := kt_M249) kX2_sixteens_c7.2.2.2.2.2.2.2.1 rfl rfl h
def zb_X2_sixteens_p100 (E : zE) (L : Nat) (Q : kx_Rs → wS → Prop) (w : wS) : Prop := Q (.inl (some (.int (-1)))) w
theorem zt_X2_sixteens_p100 {E : zE} {L : Nat} {Q : kx_Rs → wS → Prop} {w : wS} (hL : 24 ≤ L) (h : zb_X2_sixteens_p100 E L Q  w) : kzE E L kt_M249 100 [(0, .ref (w_adr E.2.1 1 0))] [] w Q := by
  unfold zb_X2_sixteens_p100 at h
  refine kz_ic (M := kt_M249) (-1) kX2_sixteens_c6.2.2.2.2.2.2.1 rfl ?_
  exact kz_iret (M := kt_M249) kX2_sixteens_c6.2.2.2.2.2.2.2.1 rfl rfl h
def zb_X2_sixteens_p60 (E : zE) (L : Nat) (Q : kx_Rs → wS → Prop) (x1 : Int32) (x2 : Int32) (x3 : Int32) (x4 : Int32) (x5 : Int32) (w : wS) : Prop := (if (x4 - x1) < 2 then zb_X2_sixteens_p100 E L Q w else (if 9 < (x4 - x1) then zb_X2_sixteens_p100 E L Q w else (if x2 ≤ x4 then zb_X2_sixteens_p102 E L Q x3 x4 x5 w else (kx_inb x4 (w_n w 1 0 0) = true ∧ zw E (L - 20) kt_M242 [.int ((w_a w 1 0 0 (x4).toNatClampNeg) &&& 255)] w (wk1 (fun v2 w1 => wle w w1 → (if v2 = 0 then zb_X2_sixteens_p102 E L Q x3 x4 x5 w1 else zb_X2_sixteens_p100 E L Q w1)) (fun e w => Q (.inr e) w))))))
theorem zt_X2_sixteens_p60 {E : zE} {L : Nat} {Q : kx_Rs → wS → Prop} {x1 : Int32} {x2 : Int32} {x3 : Int32} {x4 : Int32} {x5 : Int32} {w : wS} (hL : 24 ≤ L) (h : zb_X2_sixteens_p60 E L Q x1 x2 x3 x4 x5 w) : kzE E L kt_M249 60 [(0, .ref (w_adr E.2.1 1 0)), (1, .int x1), (2, .int x2), (3, .int x3), (4, .int x4), (5, .int x5)] [] w Q := by
  unfold zb_X2_sixteens_p60 at h
  refine kz_iload (M := kt_M249) kX2_sixteens_c4.2.1 rfl ?_
  refine kz_iload_n (M := kt_M249) kX2_sixteens_c4.2.2.1 rfl ?_
  refine kz_isub (M := kt_M249) kX2_sixteens_c4.2.2.2.1 ?_
  refine kz_ic (M := kt_M249) 2 kX2_sixteens_c4.2.2.2.2.1 rfl ?_
  refine kz_icmp_lt (M := kt_M249) kX2_sixteens_c4.2.2.2.2.2.1 (t := 100) rfl h (fun h => ?_) (fun h => ?_)
  · skip
    exact kz_weak [(0, .ref (w_adr E.2.1 1 0))] ⟨rfl, trivial⟩ rfl (zt_X2_sixteens_p100 hL  h)
  · skip
    refine kz_iload (M := kt_M249) kX2_sixteens_c4.2.2.2.2.2.2.1 rfl ?_
    refine kz_iload_n (M := kt_M249) kX2_sixteens_c4.2.2.2.2.2.2.2.1 rfl ?_
    refine kz_isub (M := kt_M249) kX2_sixteens_c5.1 ?_
    refine kz_bi (M := kt_M249) 9 kX2_sixteens_c5.2.1 rfl ?_
    refine kz_icmp_gt (M := kt_M249) kX2_sixteens_c5.2.2.1 (t := 100) rfl h (fun h => ?_) (fun h => ?_)
    · skip
      exact kz_weak [(0, .ref (w_adr E.2.1 1 0))] ⟨rfl, trivial⟩ rfl (zt_X2_sixteens_p100 hL  h)
    · skip
      refine kz_iload (M := kt_M249) kX2_sixteens_c5.2.2.2.1 rfl ?_
      refine kz_iload_n (M := kt_M249) kX2_sixteens_c5.2.2.2.2.1 rfl ?_
      refine kz_icmp_ge (M := kt_M249) kX2_sixteens_c5.2.2.2.2.2.1 (t := 102) rfl h (fun h => ?_) (fun h => ?_)
      · skip
        exact kz_weak [(0, .ref (w_adr E.2.1 1 0)), (3, .int x3), (4, .int x4), (5, .int x5)] ⟨rfl, ⟨rfl, ⟨rfl, ⟨rfl, trivial⟩⟩⟩⟩ rfl (zt_X2_sixteens_p102 hL  h)
      · skip
        refine kz_aload_n (M := kt_M249) kX2_sixteens_c5.2.2.2.2.2.2.1 rfl ?_
        refine kz_gfc (M := kt_M249) (x := 1256) (c := 1) (o := 0) kX2_sixteens_c5.2.2.2.2.2.2.2.1 wf_X2_11 (.inl rfl) ?_
        refine kz_iload (M := kt_M249) kX2_sixteens_c6.1 rfl ?_
        refine kz_bald (M := kt_M249) (c := 1) (o := 0) (k := 0) (a := (E.2.1 1256)) kX2_sixteens_c6.2.1 ow_1_0_0 oa_1_0_0 ot_1 h (fun h => ?_)
        refine kz_si (M := kt_M249) 255 kX2_sixteens_c6.2.2.1 rfl ?_
        refine kz_iand (M := kt_M249) kX2_sixteens_c6.2.2.2.1 ?_
        refine kz_cs1 (M := kt_M249) (As := [.int ((w_a w 1 0 0 (x4).toNatClampNeg) &&& 255)]) (rest := []) kX2_sixteens_c6.2.2.2.2.1 wl_X2_150 wMs_242 rfl (Nat.le_trans (Nat.le_of_ble_eq_true rfl) hL) (Nat.le_of_ble_eq_true rfl) (Nat.le_of_ble_eq_true rfl) h (fun v2 w1 hle h => ?_) (fun _ _ _ h => kzx_no rfl h)
        have h := h hle
        refine kz_if_eq (M := kt_M249) kX2_sixteens_c6.2.2.2.2.2.1 (t := 102) rfl h (fun h => ?_) (fun h => ?_)
        · skip
          exact kz_weak [(0, .ref (w_adr E.2.1 1 0)), (3, .int x3), (4, .int x4), (5, .int x5)] ⟨rfl, ⟨rfl, ⟨rfl, ⟨rfl, trivial⟩⟩⟩⟩ rfl (zt_X2_sixteens_p102 hL  h)
        · skip
          exact kz_weak [(0, .ref (w_adr E.2.1 1 0))] ⟨rfl, trivial⟩ rfl (zt_X2_sixteens_p100 hL  h)
def zb_X2_sixteens_p8 (E : zE) (L : Nat) (Q : kx_Rs → wS → Prop) (x1 : Int32) (x2 : Int32) (x3 : Int32) (x4 : Int32) (x5 : Int32) (w : wS) : Prop := (if x2 ≤ x4 then zb_X2_sixteens_p60 E L Q x1 x2 x3 x4 x5 w else (kx_inb x4 (w_n w 1 0 0) = true ∧ zw E (L - 20) kt_M248 [.int (w_a w 1 0 0 (x4).toNatClampNeg)] w (wk1 (fun v2 w1 => wle w w1 → (if v2 = (-1) then zb_X2_sixteens_p60 E L Q x1 x2 x3 x4 x5 w1 else (if 10 ≤ (x4 - x1) then zb_X2_sixteens_p60 E L Q x1 x2 x3 x4 x5 w1 else (kx_inb x4 (w_n w1 1 0 0) = true ∧ zw E (L - 20) kt_M248 [.int (w_a w1 1 0 0 (x4).toNatClampNeg)] w1 (wk1 (fun v4 w3 => wle w1 w3 → zL_X2_sixteens_p8 E L Q x1 x2 x3 (x4 + 1) ((x5 <<< (4 &&& 31)) ||| v4) w3) (fun e w => Q (.inr e) w)))))) (fun e w => Q (.inr e) w))))
theorem zt_X2_sixteens_p8 {E : zE} {L : Nat} {Q : kx_Rs → wS → Prop} {x1 : Int32} {x2 : Int32} {x3 : Int32} {x4 : Int32} {x5 : Int32} {w : wS} (hL : 24 ≤ L) (h : zb_X2_sixteens_p8 E L Q x1 x2 x3 x4 x5 w) : kzE E L kt_M249 8 [(0, .ref (w_adr E.2.1 1 0)), (1, .int x1), (2, .int x2), (3, .int x3), (4, .int x4), (5, .int x5)] [] w Q := by
  unfold zb_X2_sixteens_p8 at h
  refine kz_iload (M := kt_M249) kX2_sixteens_c0.2.2.2.2.2.2.1 rfl ?_
  refine kz_iload_n (M := kt_M249) kX2_sixteens_c0.2.2.2.2.2.2.2.1 rfl ?_
  refine kz_icmp_ge (M := kt_M249) kX2_sixteens_c1.1 (t := 60) rfl h (fun h => ?_) (fun h => ?_)
  · skip
    exact kz_weak [(0, .ref (w_adr E.2.1 1 0)), (1, .int x1), (2, .int x2), (3, .int x3), (4, .int x4), (5, .int x5)] ⟨rfl, ⟨rfl, ⟨rfl, ⟨rfl, ⟨rfl, ⟨rfl, trivial⟩⟩⟩⟩⟩⟩ rfl (zt_X2_sixteens_p60 hL  h)
  · skip
    refine kz_aload_n (M := kt_M249) kX2_sixteens_c1.2.1 rfl ?_
    refine kz_gfc (M := kt_M249) (x := 1256) (c := 1) (o := 0) kX2_sixteens_c1.2.2.1 wf_X2_11 (.inl rfl) ?_
    refine kz_iload (M := kt_M249) kX2_sixteens_c1.2.2.2.1 rfl ?_
    refine kz_bald (M := kt_M249) (c := 1) (o := 0) (k := 0) (a := (E.2.1 1256)) kX2_sixteens_c1.2.2.2.2.1 ow_1_0_0 oa_1_0_0 ot_1 h (fun h => ?_)
    refine kz_cs1 (M := kt_M249) (As := [.int (w_a w 1 0 0 (x4).toNatClampNeg)]) (rest := []) kX2_sixteens_c1.2.2.2.2.2.1 wl_X2_170 wMs_248 rfl (Nat.le_trans (Nat.le_of_ble_eq_true rfl) hL) (Nat.le_of_ble_eq_true rfl) (Nat.le_of_ble_eq_true rfl) h (fun v2 w1 hle h => ?_) (fun _ _ _ h => kzx_no rfl h)
    have h := h hle
    refine kz_ic (M := kt_M249) (-1) kX2_sixteens_c1.2.2.2.2.2.2.1 rfl ?_
    refine kz_icmp_eq (M := kt_M249) kX2_sixteens_c1.2.2.2.2.2.2.2.1 (t := 60) rfl h (fun h => ?_) (fun h => ?_)
    · skip
      exact kz_weak [(0, .ref (w_adr E.2.1 1 0)), (1, .int x1), (2, .int x2), (3, .int x3), (4, .int x4), (5, .int x5)] ⟨rfl, ⟨rfl, ⟨rfl, ⟨rfl, ⟨rfl, ⟨rfl, trivial⟩⟩⟩⟩⟩⟩ rfl (zt_X2_sixteens_p60 hL  h)
    · skip
      refine kz_iload (M := kt_M249) kX2_sixteens_c2.1 rfl ?_
      refine kz_iload_n (M := kt_M249) kX2_sixteens_c2.2.1 rfl ?_
      refine kz_isub (M := kt_M249) kX2_sixteens_c2.2.2.1 ?_
      refine kz_bi (M := kt_M249) 10 kX2_sixteens_c2.2.2.2.1 rfl ?_
      refine kz_icmp_ge (M := kt_M249) kX2_sixteens_c2.2.2.2.2.1 (t := 60) rfl h (fun h => ?_) (fun h => ?_)
      · skip
        exact kz_weak [(0, .ref (w_adr E.2.1 1 0)), (1, .int x1), (2, .int x2), (3, .int x3), (4, .int x4), (5, .int x5)] ⟨rfl, ⟨rfl, ⟨rfl, ⟨rfl, ⟨rfl, ⟨rfl, trivial⟩⟩⟩⟩⟩⟩ rfl (zt_X2_sixteens_p60 hL  h)
      · skip
        refine kz_iload (M := kt_M249) kX2_sixteens_c2.2.2.2.2.2.1 rfl ?_
        refine kz_ic (M := kt_M249) 4 kX2_sixteens_c2.2.2.2.2.2.2.1 rfl ?_
        refine kz_ishl (M := kt_M249) kX2_sixteens_c2.2.2.2.2.2.2.2.1 ?_
        refine kz_aload_n (M := kt_M249) kX2_sixteens_c3.1 rfl ?_
        refine kz_gfc (M := kt_M249) (x := 1256) (c := 1) (o := 0) kX2_sixteens_c3.2.1 wf_X2_11 (.inl rfl) ?_
        refine kz_iload (M := kt_M249) kX2_sixteens_c3.2.2.1 rfl ?_
        refine kz_inc (M := kt_M249) [(0, .ref (w_adr E.2.1 1 0)), (1, .int x1), (2, .int x2), (3, .int x3)] kX2_sixteens_c3.2.2.2.1 rfl (Nat.le_of_ble_eq_true rfl) ⟨⟨rfl, rfl, .inl rfl⟩, ⟨⟨rfl, rfl, .inl rfl⟩, ⟨⟨rfl, rfl, .inl rfl⟩, ⟨⟨rfl, rfl, .inr rfl⟩, trivial⟩⟩⟩⟩ rfl ?_
        refine kz_bald (M := kt_M249) (c := 1) (o := 0) (k := 0) (a := (E.2.1 1256)) kX2_sixteens_c3.2.2.2.2.1 ow_1_0_0 oa_1_0_0 ot_1 h (fun h => ?_)
        refine kz_cs1 (M := kt_M249) (As := [.int (w_a w1 1 0 0 (x4).toNatClampNeg)]) (rest := [.int (x5 <<< (4 &&& 31))]) kX2_sixteens_c3.2.2.2.2.2.1 wl_X2_170 wMs_248 rfl (Nat.le_trans (Nat.le_of_ble_eq_true rfl) hL) (Nat.le_of_ble_eq_true rfl) (Nat.le_of_ble_eq_true rfl) h (fun v4 w3 hle h => ?_) (fun _ _ _ h => kzx_no rfl h)
        have h := h hle
        refine kz_ior (M := kt_M249) kX2_sixteens_c3.2.2.2.2.2.2.1 ?_
        refine kz_sti (M := kt_M249) [(0, .ref (w_adr E.2.1 1 0)), (1, .int x1), (2, .int x2), (3, .int x3), (4, .int (x4 + 1))] kX2_sixteens_c3.2.2.2.2.2.2.2.1 (Nat.le_of_ble_eq_true rfl) ⟨⟨rfl, rfl, .inl rfl⟩, ⟨⟨rfl, rfl, .inl rfl⟩, ⟨⟨rfl, rfl, .inl rfl⟩, ⟨⟨rfl, rfl, .inl rfl⟩, ⟨⟨rfl, rfl, .inr rfl⟩, trivial⟩⟩⟩⟩⟩ rfl ?_
        refine kz_goto (M := kt_M249) kX2_sixteens_c4.1 (t := 8) rfl ?_
        exact kz_weak [(0, .ref (w_adr E.2.1 1 0)), (1, .int x1), (2, .int x2), (3, .int x3), (4, .int (x4 + 1)), (5, .int ((x5 <<< (4 &&& 31)) ||| v4))] ⟨rfl, ⟨rfl, ⟨rfl, ⟨rfl, ⟨rfl, ⟨rfl, trivial⟩⟩⟩⟩⟩⟩ rfl h
def zb_X2_sixteens_p0 (E : zE) (L : Nat) (Q : kx_Rs → wS → Prop) (x1 : Int32) (x2 : Int32) (x3 : Int32) (w : wS) : Prop := zL_X2_sixteens_p8 E L Q x1 x2 x3 (x1 + 1) 0 w
theorem zt_X2_sixteens_p0 {E : zE} {L : Nat} {Q : kx_Rs → wS → Prop} {x1 : Int32} {x2 : Int32} {x3 : Int32} {w : wS} (hL : 24 ≤ L) (h : zb_X2_sixteens_p0 E L Q x1 x2 x3 w) : kzE E L kt_M249 0 [(0, .ref (w_adr E.2.1 1 0)), (1, .int x1), (2, .int x2), (3, .int x3)] [] w Q := by
  unfold zb_X2_sixteens_p0 at h
  refine kz_iload_n (M := kt_M249) kX2_sixteens_c0.1 rfl ?_
  refine kz_ic (M := kt_M249) 1 kX2_sixteens_c0.2.1 rfl ?_
  refine kz_iadd (M := kt_M249) kX2_sixteens_c0.2.2.1 ?_
  refine kz_sti (M := kt_M249) [(0, .ref (w_adr E.2.1 1 0)), (1, .int x1), (2, .int x2), (3, .int x3)] kX2_sixteens_c0.2.2.2.1 (Nat.le_of_ble_eq_true rfl) ⟨⟨rfl, rfl, .inl rfl⟩, ⟨⟨rfl, rfl, .inl rfl⟩, ⟨⟨rfl, rfl, .inl rfl⟩, ⟨⟨rfl, rfl, .inr rfl⟩, trivial⟩⟩⟩⟩ rfl ?_
  refine kz_ic (M := kt_M249) 0 kX2_sixteens_c0.2.2.2.2.1 rfl ?_
  refine kz_sti (M := kt_M249) [(0, .ref (w_adr E.2.1 1 0)), (1, .int x1), (2, .int x2), (3, .int x3), (4, .int (x1 + 1))] kX2_sixteens_c0.2.2.2.2.2.1 (Nat.le_of_ble_eq_true rfl) ⟨⟨rfl, rfl, .inl rfl⟩, ⟨⟨rfl, rfl, .inl rfl⟩, ⟨⟨rfl, rfl, .inl rfl⟩, ⟨⟨rfl, rfl, .inl rfl⟩, ⟨⟨rfl, rfl, .inr rfl⟩, trivial⟩⟩⟩⟩⟩ rfl ?_
  exact kz_weak [(0, .ref (w_adr E.2.1 1 0)), (1, .int x1), (2, .int x2), (3, .int x3), (4, .int (x1 + 1)), (5, .int 0)] ⟨rfl, ⟨rfl, ⟨rfl, ⟨rfl, ⟨rfl, ⟨rfl, trivial⟩⟩⟩⟩⟩⟩ rfl h
def zb_X2_sixteen_p37 (E : zE) (L : Nat) (Q : kx_Rs → wS → Prop) (y0 : Int32) (w : wS) : Prop := Q (.inl (some (.int y0))) w
theorem zt_X2_sixteen_p37 {E : zE} {L : Nat} {Q : kx_Rs → wS → Prop} {y0 : Int32} {w : wS} (hL : 20 ≤ L) (h : zb_X2_sixteen_p37 E L Q y0 w) : kzE E L kt_M248 37 [] [.int y0] w Q := by
  unfold zb_X2_sixteen_p37 at h
  exact kz_iret (M := kt_M248) kX2_sixteen_c2.2.2.2.2.1 rfl rfl h
def zb_X2_sixteen_p36 (E : zE) (L : Nat) (Q : kx_Rs → wS → Prop) (w : wS) : Prop := zb_X2_sixteen_p37 E L Q (-1) w
theorem zt_X2_sixteen_p36 {E : zE} {L : Nat} {Q : kx_Rs → wS → Prop} {w : wS} (hL : 20 ≤ L) (h : zb_X2_sixteen_p36 E L Q  w) : kzE E L kt_M248 36 [] [] w Q := by
  unfold zb_X2_sixteen_p36 at h
  refine kz_ic (M := kt_M248) (-1) kX2_sixteen_c2.2.2.2.1 rfl ?_
  exact kz_weak [] trivial rfl (zt_X2_sixteen_p37 hL  h)
def zb_X2_sixteen_p0 (E : zE) (L : Nat) (Q : kx_Rs → wS → Prop) (x0 : Int32) (w : wS) : Prop := zw E (L - 20) kt_M240 [.int x0] w (wk1 (fun v2 w1 => wle w w1 → (if v2 = 0 then (if x0 < 65 then zb_X2_sixteen_p36 E L Q w1 else (if 70 < x0 then zb_X2_sixteen_p36 E L Q w1 else zb_X2_sixteen_p37 E L Q ((x0 - 65) + 10) w1)) else zb_X2_sixteen_p37 E L Q (x0 - 48) w1)) (fun e w => Q (.inr e) w))
theorem zt_X2_sixteen_p0 {E : zE} {L : Nat} {Q : kx_Rs → wS → Prop} {x0 : Int32} {w : wS} (hL : 20 ≤ L) (h : zb_X2_sixteen_p0 E L Q x0 w) : kzE E L kt_M248 0 [(0, .int x0)] [] w Q := by
  unfold zb_X2_sixteen_p0 at h
  refine kz_iload_n (M := kt_M248) kX2_sixteen_c0.1 rfl ?_
  refine kz_cs1 (M := kt_M248) (As := [.int x0]) (rest := []) kX2_sixteen_c0.2.1 wl_X2_61 wMs_240 rfl (Nat.le_trans (Nat.le_of_ble_eq_true rfl) hL) (Nat.le_of_ble_eq_true rfl) (Nat.le_of_ble_eq_true rfl) h (fun v2 w1 hle h => ?_) (fun _ _ _ h => kzx_no rfl h)
  have h := h hle
  refine kz_if_eq (M := kt_M248) kX2_sixteen_c0.2.2.1 (t := 14) rfl h (fun h => ?_) (fun h => ?_)
  · skip
    refine kz_iload_n (M := kt_M248) kX2_sixteen_c0.2.2.2.2.2.2.2.1 rfl ?_
    refine kz_bi (M := kt_M248) 65 kX2_sixteen_c1.1 rfl ?_
    refine kz_icmp_lt (M := kt_M248) kX2_sixteen_c1.2.1 (t := 36) rfl h (fun h => ?_) (fun h => ?_)
    · skip
      exact kz_weak [] trivial rfl (zt_X2_sixteen_p36 hL  h)
    · skip
      refine kz_iload_n (M := kt_M248) kX2_sixteen_c1.2.2.1 rfl ?_
      refine kz_bi (M := kt_M248) 70 kX2_sixteen_c1.2.2.2.1 rfl ?_
      refine kz_icmp_gt (M := kt_M248) kX2_sixteen_c1.2.2.2.2.1 (t := 36) rfl h (fun h => ?_) (fun h => ?_)
      · skip
        exact kz_weak [] trivial rfl (zt_X2_sixteen_p36 hL  h)
      · skip
        refine kz_iload_n (M := kt_M248) kX2_sixteen_c1.2.2.2.2.2.1 rfl ?_
        refine kz_bi (M := kt_M248) 65 kX2_sixteen_c1.2.2.2.2.2.2.1 rfl ?_
        refine kz_isub (M := kt_M248) kX2_sixteen_c1.2.2.2.2.2.2.2.1 ?_
        refine kz_bi (M := kt_M248) 10 kX2_sixteen_c2.1 rfl ?_
        refine kz_iadd (M := kt_M248) kX2_sixteen_c2.2.1 ?_
        refine kz_goto (M := kt_M248) kX2_sixteen_c2.2.2.1 (t := 37) rfl ?_
        exact kz_weak [] trivial rfl (zt_X2_sixteen_p37 hL  h)
  · skip
    refine kz_iload_n (M := kt_M248) kX2_sixteen_c0.2.2.2.1 rfl ?_
    refine kz_bi (M := kt_M248) 48 kX2_sixteen_c0.2.2.2.2.1 rfl ?_
    refine kz_isub (M := kt_M248) kX2_sixteen_c0.2.2.2.2.2.1 ?_
    refine kz_goto (M := kt_M248) kX2_sixteen_c0.2.2.2.2.2.2.1 (t := 37) rfl ?_
    exact kz_weak [] trivial rfl (zt_X2_sixteen_p37 hL  h)
def zL_X2_string_p11 (E : zE) (L : Nat) (Q : kx_Rs → wS → Prop) (x2 : Int32) (x3 : Int32) (x4 : Int32) (x5 : Int32) (w : wS) : Prop := kzE E L kt_M250 11 [(0, .ref (w_adr E.2.1 1 0)), (2, .int x2), (3, .int x3), (4, .int x4), (5, .int x5)] [] w Q
def zb_X2_string_p80 (E : zE) (L : Nat) (Q : kx_Rs → wS → Prop) (w : wS) : Prop := Q (.inl (some (.int (-1)))) w
theorem zt_X2_string_p80 {E : zE} {L : Nat} {Q : kx_Rs → wS → Prop} {w : wS} (hL : 25 ≤ L) (h : zb_X2_string_p80 E L Q  w) : kzE E L kt_M250 80 [(0, .ref (w_adr E.2.1 1 0))] [] w Q := by
  unfold zb_X2_string_p80 at h
  refine kz_ic (M := kt_M250) (-1) kX2_string_c5.2.1 rfl ?_
  exact kz_iret (M := kt_M250) kX2_string_c5.2.2.1 rfl rfl h
def zb_X2_string_p47 (E : zE) (L : Nat) (Q : kx_Rs → wS → Prop) (x2 : Int32) (x3 : Int32) (x4 : Int32) (x5 : Int32) (w : wS) : Prop := (if x5 = (-1) then zb_X2_string_p80 E L Q w else (if x2 ≤ x5 then zb_X2_string_p80 E L Q w else (if w_i w 1 0 11 = x4 then zb_X2_string_p80 E L Q w else (if ((w_i w 1 0 11) - x4) ≤ 60 then zw E (L - 24) kt_M236 [.ref (w_adr E.2.1 1 0), va_rf (some (E.1.1 3)), .int x4, .int ((w_i w 1 0 11) - x4), .int x3] w (wk0 (fun w1 => wle w w1 → Q (.inl (some (.int (x5 + 1)))) w1) (fun e w => Q (.inr e) w)) else zb_X2_string_p80 E L Q w))))
theorem zt_X2_string_p47 {E : zE} {L : Nat} {Q : kx_Rs → wS → Prop} {x2 : Int32} {x3 : Int32} {x4 : Int32} {x5 : Int32} {w : wS} (hL : 25 ≤ L) (h : zb_X2_string_p47 E L Q x2 x3 x4 x5 w) : kzE E L kt_M250 47 [(0, .ref (w_adr E.2.1 1 0)), (2, .int x2), (3, .int x3), (4, .int x4), (5, .int x5)] [] w Q := by
  unfold zb_X2_string_p47 at h
  refine kz_iload (M := kt_M250) kX2_string_c3.2.1 rfl ?_
  refine kz_ic (M := kt_M250) (-1) kX2_string_c3.2.2.1 rfl ?_
  refine kz_icmp_eq (M := kt_M250) kX2_string_c3.2.2.2.1 (t := 80) rfl h (fun h => ?_) (fun h => ?_)
  · skip
    exact kz_weak [(0, .ref (w_adr E.2.1 1 0))] ⟨rfl, trivial⟩ rfl (zt_X2_string_p80 hL  h)
  · skip
    refine kz_iload (M := kt_M250) kX2_string_c3.2.2.2.2.1 rfl ?_
    refine kz_iload_n (M := kt_M250) kX2_string_c3.2.2.2.2.2.1 rfl ?_
    refine kz_icmp_ge (M := kt_M250) kX2_string_c3.2.2.2.2.2.2.1 (t := 80) rfl h (fun h => ?_) (fun h => ?_)
    · skip
      exact kz_weak [(0, .ref (w_adr E.2.1 1 0))] ⟨rfl, trivial⟩ rfl (zt_X2_string_p80 hL  h)
    · skip
      refine kz_aload_n (M := kt_M250) kX2_string_c3.2.2.2.2.2.2.2.1 rfl ?_
      refine kz_gfi (M := kt_M250) (c := 1) (o := 0) kX2_string_c4.1 wf_X2_107 (.inl rfl) ?_
      refine kz_iload (M := kt_M250) kX2_string_c4.2.1 rfl ?_
      refine kz_icmp_eq (M := kt_M250) kX2_string_c4.2.2.1 (t := 80) rfl h (fun h => ?_) (fun h => ?_)
      · skip
        exact kz_weak [(0, .ref (w_adr E.2.1 1 0))] ⟨rfl, trivial⟩ rfl (zt_X2_string_p80 hL  h)
      · skip
        refine kz_aload_n (M := kt_M250) kX2_string_c4.2.2.2.1 rfl ?_
        refine kz_gfi (M := kt_M250) (c := 1) (o := 0) kX2_string_c4.2.2.2.2.1 wf_X2_107 (.inl rfl) ?_
        refine kz_iload (M := kt_M250) kX2_string_c4.2.2.2.2.2.1 rfl ?_
        refine kz_isub (M := kt_M250) kX2_string_c4.2.2.2.2.2.2.1 ?_
        refine kz_bi (M := kt_M250) 60 kX2_string_c4.2.2.2.2.2.2.2.1 rfl ?_
        refine kz_icmp_le (M := kt_M250) kX2_string_c5.1 (t := 82) rfl h (fun h => ?_) (fun h => ?_)
        · skip
          refine kz_aload_n (M := kt_M250) kX2_string_c5.2.2.2.1 rfl ?_
          refine kz_getsE (M := kt_M250) (v := va_rf (some (E.1.1 3))) kX2_string_c5.2.2.2.2.1 zs_X2_181 ?_
          refine kz_iload (M := kt_M250) kX2_string_c5.2.2.2.2.2.1 rfl ?_
          refine kz_aload_n (M := kt_M250) kX2_string_c5.2.2.2.2.2.2.1 rfl ?_
          refine kz_gfi (M := kt_M250) (c := 1) (o := 0) kX2_string_c5.2.2.2.2.2.2.2.1 wf_X2_107 (.inl rfl) ?_
          refine kz_iload (M := kt_M250) kX2_string_c6.1 rfl ?_
          refine kz_isub (M := kt_M250) kX2_string_c6.2.1 ?_
          refine kz_iload_n (M := kt_M250) kX2_string_c6.2.2.1 rfl ?_
          refine kz_cv0 (M := kt_M250) (c := 1) (o := 0) (As := [va_rf (some (E.1.1 3)), .int x4, .int ((w_i w 1 0 11) - x4), .int x3]) (rest := []) kX2_string_c6.2.2.2.1 wl_X2_118 wMv_236 rfl (.inl rfl) rfl (Nat.le_trans (Nat.le_of_ble_eq_true rfl) hL) (by simp [lg_sl, w_cat, z_ci, z_cr, z_cl, z_cn, kt_M236]) (Nat.le_of_ble_eq_true rfl) h (fun w1 hle h => ?_) (fun _ _ _ h => kzx_no rfl h)
          have h := h hle
          refine kz_iload (M := kt_M250) kX2_string_c6.2.2.2.2.1 rfl ?_
          refine kz_ic (M := kt_M250) 1 kX2_string_c6.2.2.2.2.2.1 rfl ?_
          refine kz_iadd (M := kt_M250) kX2_string_c6.2.2.2.2.2.2.1 ?_
          exact kz_iret (M := kt_M250) kX2_string_c6.2.2.2.2.2.2.2.1 rfl rfl h
        · skip
          exact kz_weak [(0, .ref (w_adr E.2.1 1 0))] ⟨rfl, trivial⟩ rfl (zt_X2_string_p80 hL  h)
def zb_X2_string_p11 (E : zE) (L : Nat) (Q : kx_Rs → wS → Prop) (x2 : Int32) (x3 : Int32) (x4 : Int32) (x5 : Int32) (w : wS) : Prop := (if x5 = (-1) then zb_X2_string_p47 E L Q x2 x3 x4 x5 w else (if x2 ≤ x5 then zb_X2_string_p47 E L Q x2 x3 x4 x5 w else (kx_inb x5 (w_n w 1 0 0) = true ∧ (if w_a w 1 0 0 (x5).toNatClampNeg = 34 then zb_X2_string_p47 E L Q x2 x3 x4 x5 w else zw E (L - 25) kt_M246 [.ref (w_adr E.2.1 1 0), .int x5, .int x2] w (wk1 (fun v2 w1 => wle w w1 → zL_X2_string_p11 E L Q x2 x3 x4 v2 w1) (fun e w => Q (.inr e) w))))))
theorem zt_X2_string_p11 {E : zE} {L : Nat} {Q : kx_Rs → wS → Prop} {x2 : Int32} {x3 : Int32} {x4 : Int32} {x5 : Int32} {w : wS} (hL : 25 ≤ L) (h : zb_X2_string_p11 E L Q x2 x3 x4 x5 w) : kzE E L kt_M250 11 [(0, .ref (w_adr E.2.1 1 0)), (2, .int x2), (3, .int x3), (4, .int x4), (5, .int x5)] [] w Q := by
  unfold zb_X2_string_p11 at h
  refine kz_iload (M := kt_M250) kX2_string_c0.2.2.2.2.2.2.2.1 rfl ?_
  refine kz_ic (M := kt_M250) (-1) kX2_string_c1.1 rfl ?_
  refine kz_icmp_eq (M := kt_M250) kX2_string_c1.2.1 (t := 47) rfl h (fun h => ?_) (fun h => ?_)
  · skip
    exact kz_weak [(0, .ref (w_adr E.2.1 1 0)), (2, .int x2), (3, .int x3), (4, .int x4), (5, .int x5)] ⟨rfl, ⟨rfl, ⟨rfl, ⟨rfl, ⟨rfl, trivial⟩⟩⟩⟩⟩ rfl (zt_X2_string_p47 hL  h)
  · skip
    refine kz_iload (M := kt_M250) kX2_string_c1.2.2.1 rfl ?_
    refine kz_iload_n (M := kt_M250) kX2_string_c1.2.2.2.1 rfl ?_
    refine kz_icmp_ge (M := kt_M250) kX2_string_c1.2.2.2.2.1 (t := 47) rfl h (fun h => ?_) (fun h => ?_)
    · skip
      exact kz_weak [(0, .ref (w_adr E.2.1 1 0)), (2, .int x2), (3, .int x3), (4, .int x4), (5, .int x5)] ⟨rfl, ⟨rfl, ⟨rfl, ⟨rfl, ⟨rfl, trivial⟩⟩⟩⟩⟩ rfl (zt_X2_string_p47 hL  h)
    · skip
      refine kz_aload_n (M := kt_M250) kX2_string_c1.2.2.2.2.2.1 rfl ?_
      refine kz_gfc (M := kt_M250) (x := 1256) (c := 1) (o := 0) kX2_string_c1.2.2.2.2.2.2.1 wf_X2_11 (.inl rfl) ?_
      refine kz_iload (M := kt_M250) kX2_string_c1.2.2.2.2.2.2.2.1 rfl ?_
      refine kz_bald (M := kt_M250) (c := 1) (o := 0) (k := 0) (a := (E.2.1 1256)) kX2_string_c2.1 ow_1_0_0 oa_1_0_0 ot_1 h (fun h => ?_)
      refine kz_bi (M := kt_M250) 34 kX2_string_c2.2.1 rfl ?_
      refine kz_icmp_eq (M := kt_M250) kX2_string_c2.2.2.1 (t := 47) rfl h (fun h => ?_) (fun h => ?_)
      · skip
        exact kz_weak [(0, .ref (w_adr E.2.1 1 0)), (2, .int x2), (3, .int x3), (4, .int x4), (5, .int x5)] ⟨rfl, ⟨rfl, ⟨rfl, ⟨rfl, ⟨rfl, trivial⟩⟩⟩⟩⟩ rfl (zt_X2_string_p47 hL  h)
      · skip
        refine kz_aload_n (M := kt_M250) kX2_string_c2.2.2.2.1 rfl ?_
        refine kz_iload (M := kt_M250) kX2_string_c2.2.2.2.2.1 rfl ?_
        refine kz_iload_n (M := kt_M250) kX2_string_c2.2.2.2.2.2.1 rfl ?_
        refine kz_cv1 (M := kt_M250) (c := 1) (o := 0) (As := [.int x5, .int x2]) (rest := []) kX2_string_c2.2.2.2.2.2.2.1 wl_X2_174 wMv_246 rfl (.inl rfl) rfl (Nat.le_trans (Nat.le_of_ble_eq_true rfl) hL) (Nat.le_of_ble_eq_true rfl) (Nat.le_of_ble_eq_true rfl) h (fun v2 w1 hle h => ?_) (fun _ _ _ h => kzx_no rfl h)
        have h := h hle
        refine kz_sti (M := kt_M250) [(0, .ref (w_adr E.2.1 1 0)), (2, .int x2), (3, .int x3), (4, .int x4)] kX2_string_c2.2.2.2.2.2.2.2.1 (Nat.le_of_ble_eq_true rfl) ⟨⟨rfl, rfl, .inl rfl⟩, ⟨⟨rfl, rfl, .inl rfl⟩, ⟨⟨rfl, rfl, .inl rfl⟩, ⟨⟨rfl, rfl, .inr rfl⟩, trivial⟩⟩⟩⟩ rfl ?_
        refine kz_goto (M := kt_M250) kX2_string_c3.1 (t := 11) rfl ?_
        exact kz_weak [(0, .ref (w_adr E.2.1 1 0)), (2, .int x2), (3, .int x3), (4, .int x4), (5, .int v2)] ⟨rfl, ⟨rfl, ⟨rfl, ⟨rfl, ⟨rfl, trivial⟩⟩⟩⟩⟩ rfl h
def zb_X2_string_p0 (E : zE) (L : Nat) (Q : kx_Rs → wS → Prop) (x1 : Int32) (x2 : Int32) (x3 : Int32) (w : wS) : Prop := zL_X2_string_p11 E L Q x2 x3 (w_i w 1 0 11) (x1 + 1) w
theorem zt_X2_string_p0 {E : zE} {L : Nat} {Q : kx_Rs → wS → Prop} {x1 : Int32} {x2 : Int32} {x3 : Int32} {w : wS} (hL : 25 ≤ L) (h : zb_X2_string_p0 E L Q x1 x2 x3 w) : kzE E L kt_M250 0 [(0, .ref (w_adr E.2.1 1 0)), (1, .int x1), (2, .int x2), (3, .int x3)] [] w Q := by
  unfold zb_X2_string_p0 at h
  refine kz_aload_n (M := kt_M250) kX2_string_c0.1 rfl ?_
  refine kz_gfi (M := kt_M250) (c := 1) (o := 0) kX2_string_c0.2.1 wf_X2_107 (.inl rfl) ?_
  refine kz_sti (M := kt_M250) [(0, .ref (w_adr E.2.1 1 0)), (1, .int x1), (2, .int x2), (3, .int x3)] kX2_string_c0.2.2.1 (Nat.le_of_ble_eq_true rfl) ⟨⟨rfl, rfl, .inl rfl⟩, ⟨⟨rfl, rfl, .inl rfl⟩, ⟨⟨rfl, rfl, .inl rfl⟩, ⟨⟨rfl, rfl, .inr rfl⟩, trivial⟩⟩⟩⟩ rfl ?_
  refine kz_iload_n (M := kt_M250) kX2_string_c0.2.2.2.1 rfl ?_
  refine kz_ic (M := kt_M250) 1 kX2_string_c0.2.2.2.2.1 rfl ?_
  refine kz_iadd (M := kt_M250) kX2_string_c0.2.2.2.2.2.1 ?_
  refine kz_sti (M := kt_M250) [(0, .ref (w_adr E.2.1 1 0)), (2, .int x2), (3, .int x3), (4, .int (w_i w 1 0 11))] kX2_string_c0.2.2.2.2.2.2.1 (Nat.le_of_ble_eq_true rfl) ⟨⟨rfl, rfl, .inl rfl⟩, ⟨⟨rfl, rfl, .inl rfl⟩, ⟨⟨rfl, rfl, .inl rfl⟩, ⟨⟨rfl, rfl, .inr rfl⟩, trivial⟩⟩⟩⟩ rfl ?_
  exact kz_weak [(0, .ref (w_adr E.2.1 1 0)), (2, .int x2), (3, .int x3), (4, .int (w_i w 1 0 11)), (5, .int (x1 + 1))] ⟨rfl, ⟨rfl, ⟨rfl, ⟨rfl, ⟨rfl, trivial⟩⟩⟩⟩⟩ rfl h
def zb_X2_oneSign_p171 (E : zE) (L : Nat) (Q : kx_Rs → wS → Prop) (w : wS) : Prop := Q (.inl (some (.int (-1)))) w
theorem zt_X2_oneSign_p171 {E : zE} {L : Nat} {Q : kx_Rs → wS → Prop} {w : wS} (hL : 19 ≤ L) (h : zb_X2_oneSign_p171 E L Q  w) : kzE E L kt_M246 171 [(0, .ref (w_adr E.2.1 1 0))] [] w Q := by
  unfold zb_X2_oneSign_p171 at h
  refine kz_ic (M := kt_M246) (-1) kX2_oneSign_c11.2.2.2.2.1 rfl ?_
  exact kz_iret (M := kt_M246) kX2_oneSign_c11.2.2.2.2.2.1 rfl rfl h
def zb_X2_oneSign_p114 (E : zE) (L : Nat) (Q : kx_Rs → wS → Prop) (x1 : Int32) (y0 : Int32) (w : wS) : Prop := (if ¬ y0 = (-1) then (kx_inb (w_i w 1 0 11) (w_n w 1 0 10) = true ∧ Q (.inl (some (.int (x1 + 2)))) (ws_a (ws_i w 1 0 11 ((w_i w 1 0 11) + 1)) 1 0 10 (w_i w 1 0 11).toNatClampNeg (vp_nar .byte ((y0).toInt8.toInt32)))) else Q (.inl (some (.int (-1)))) w)
theorem zt_X2_oneSign_p114 {E : zE} {L : Nat} {Q : kx_Rs → wS → Prop} {x1 : Int32} {y0 : Int32} {w : wS} (hL : 19 ≤ L) (h : zb_X2_oneSign_p114 E L Q x1 y0 w) : kzE E L kt_M246 114 [(0, .ref (w_adr E.2.1 1 0)), (1, .int x1)] [.int y0] w Q := by
  unfold zb_X2_oneSign_p114 at h
  refine kz_sti (M := kt_M246) [(0, .ref (w_adr E.2.1 1 0)), (1, .int x1)] kX2_oneSign_c7.2.2.1 (Nat.le_of_ble_eq_true rfl) ⟨⟨rfl, rfl, .inl rfl⟩, ⟨⟨rfl, rfl, .inl rfl⟩, trivial⟩⟩ rfl ?_
  refine kz_iload (M := kt_M246) kX2_oneSign_c7.2.2.2.1 rfl ?_
  refine kz_ic (M := kt_M246) (-1) kX2_oneSign_c7.2.2.2.2.1 rfl ?_
  refine kz_icmp_ne (M := kt_M246) kX2_oneSign_c7.2.2.2.2.2.1 (t := 124) rfl h (fun h => ?_) (fun h => ?_)
  · skip
    refine kz_aload_n (M := kt_M246) kX2_oneSign_c8.1 rfl ?_
    refine kz_gfc (M := kt_M246) (x := 1266) (c := 1) (o := 0) kX2_oneSign_c8.2.1 wf_X2_36 (.inl rfl) ?_
    refine kz_aload_n (M := kt_M246) kX2_oneSign_c8.2.2.1 rfl ?_
    refine kz_dup (M := kt_M246) kX2_oneSign_c8.2.2.2.1 rfl ?_
    refine kz_gfi (M := kt_M246) (c := 1) (o := 0) kX2_oneSign_c8.2.2.2.2.1 wf_X2_107 (.inl rfl) ?_
    refine kz_dup_x1 (M := kt_M246) kX2_oneSign_c8.2.2.2.2.2.1 ⟨rfl, rfl⟩ ?_
    refine kz_ic (M := kt_M246) 1 kX2_oneSign_c8.2.2.2.2.2.2.1 rfl ?_
    refine kz_iadd (M := kt_M246) kX2_oneSign_c8.2.2.2.2.2.2.2.1 ?_
    refine kz_pfi (M := kt_M246) (c := 1) (o := 0) kX2_oneSign_c9.1 wq_X2_107 (.inl rfl) ?_
    refine kz_iload (M := kt_M246) kX2_oneSign_c9.2.1 rfl ?_
    refine kz_i2b (M := kt_M246) kX2_oneSign_c9.2.2.1 ?_
    refine kz_bastR (M := kt_M246) (n := w_n w 1 0 10) (c := 1) (o := 0) (k := 10) (a := (E.2.1 1266)) kX2_oneSign_c9.2.2.2.1 ow_1_0_10 oa_1_0_10 ot_1 rd_n_i h (fun h => ?_)
    refine kz_iload_n (M := kt_M246) kX2_oneSign_c9.2.2.2.2.1 rfl ?_
    refine kz_ic (M := kt_M246) 2 kX2_oneSign_c9.2.2.2.2.2.1 rfl ?_
    refine kz_iadd (M := kt_M246) kX2_oneSign_c9.2.2.2.2.2.2.1 ?_
    exact kz_iret (M := kt_M246) kX2_oneSign_c9.2.2.2.2.2.2.2.1 rfl rfl h
  · skip
    refine kz_ic (M := kt_M246) (-1) kX2_oneSign_c7.2.2.2.2.2.2.1 rfl ?_
    exact kz_iret (M := kt_M246) kX2_oneSign_c7.2.2.2.2.2.2.2.1 rfl rfl h
def zb_X2_oneSign_p108 (E : zE) (L : Nat) (Q : kx_Rs → wS → Prop) (x1 : Int32) (x4 : Int32) (w : wS) : Prop := zb_X2_oneSign_p114 E L Q x1 x4 w
theorem zt_X2_oneSign_p108 {E : zE} {L : Nat} {Q : kx_Rs → wS → Prop} {x1 : Int32} {x4 : Int32} {w : wS} (hL : 19 ≤ L) (h : zb_X2_oneSign_p108 E L Q x1 x4 w) : kzE E L kt_M246 108 [(0, .ref (w_adr E.2.1 1 0)), (1, .int x1), (4, .int x4)] [] w Q := by
  unfold zb_X2_oneSign_p108 at h
  refine kz_iload (M := kt_M246) kX2_oneSign_c6.2.2.2.2.2.2.2.1 rfl ?_
  refine kz_goto (M := kt_M246) kX2_oneSign_c7.1 (t := 114) rfl ?_
  exact kz_weak [(0, .ref (w_adr E.2.1 1 0)), (1, .int x1)] ⟨rfl, ⟨rfl, trivial⟩⟩ rfl (zt_X2_oneSign_p114 hL  h)
def zb_X2_oneSign_p49 (E : zE) (L : Nat) (Q : kx_Rs → wS → Prop) (x1 : Int32) (y0 : Int32) (w : wS) : Prop := (if ¬ y0 = 110 then (if ¬ y0 = 116 then (if ¬ y0 = 115 then (if y0 = 39 then zb_X2_oneSign_p108 E L Q x1 y0 w else (if y0 = 34 then zb_X2_oneSign_p108 E L Q x1 y0 w else (if ¬ y0 = 42 then zb_X2_oneSign_p114 E L Q x1 (-1) w else zb_X2_oneSign_p108 E L Q x1 y0 w))) else zb_X2_oneSign_p114 E L Q x1 32 w) else zb_X2_oneSign_p114 E L Q x1 9 w) else zb_X2_oneSign_p114 E L Q x1 10 w)
theorem zt_X2_oneSign_p49 {E : zE} {L : Nat} {Q : kx_Rs → wS → Prop} {x1 : Int32} {y0 : Int32} {w : wS} (hL : 19 ≤ L) (h : zb_X2_oneSign_p49 E L Q x1 y0 w) : kzE E L kt_M246 49 [(0, .ref (w_adr E.2.1 1 0)), (1, .int x1)] [.int y0] w Q := by
  unfold zb_X2_oneSign_p49 at h
  refine kz_sti (M := kt_M246) [(0, .ref (w_adr E.2.1 1 0)), (1, .int x1)] kX2_oneSign_c3.2.2.2.2.2.2.1 (Nat.le_of_ble_eq_true rfl) ⟨⟨rfl, rfl, .inl rfl⟩, ⟨⟨rfl, rfl, .inl rfl⟩, trivial⟩⟩ rfl ?_
  refine kz_iload (M := kt_M246) kX2_oneSign_c3.2.2.2.2.2.2.2.1 rfl ?_
  refine kz_bi (M := kt_M246) 110 kX2_oneSign_c4.1 rfl ?_
  refine kz_icmp_ne (M := kt_M246) kX2_oneSign_c4.2.1 (t := 63) rfl h (fun h => ?_) (fun h => ?_)
  · skip
    refine kz_iload (M := kt_M246) kX2_oneSign_c4.2.2.2.2.1 rfl ?_
    refine kz_bi (M := kt_M246) 116 kX2_oneSign_c4.2.2.2.2.2.1 rfl ?_
    refine kz_icmp_ne (M := kt_M246) kX2_oneSign_c4.2.2.2.2.2.2.1 (t := 75) rfl h (fun h => ?_) (fun h => ?_)
    · skip
      refine kz_iload (M := kt_M246) kX2_oneSign_c5.2.1 rfl ?_
      refine kz_bi (M := kt_M246) 115 kX2_oneSign_c5.2.2.1 rfl ?_
      refine kz_icmp_ne (M := kt_M246) kX2_oneSign_c5.2.2.2.1 (t := 87) rfl h (fun h => ?_) (fun h => ?_)
      · skip
        refine kz_iload (M := kt_M246) kX2_oneSign_c5.2.2.2.2.2.2.1 rfl ?_
        refine kz_bi (M := kt_M246) 39 kX2_oneSign_c5.2.2.2.2.2.2.2.1 rfl ?_
        refine kz_icmp_eq (M := kt_M246) kX2_oneSign_c6.1 (t := 108) rfl h (fun h => ?_) (fun h => ?_)
        · skip
          exact kz_weak [(0, .ref (w_adr E.2.1 1 0)), (1, .int x1), (4, .int y0)] ⟨rfl, ⟨rfl, ⟨rfl, trivial⟩⟩⟩ rfl (zt_X2_oneSign_p108 hL  h)
        · skip
          refine kz_iload (M := kt_M246) kX2_oneSign_c6.2.1 rfl ?_
          refine kz_bi (M := kt_M246) 34 kX2_oneSign_c6.2.2.1 rfl ?_
          refine kz_icmp_eq (M := kt_M246) kX2_oneSign_c6.2.2.2.1 (t := 108) rfl h (fun h => ?_) (fun h => ?_)
          · skip
            exact kz_weak [(0, .ref (w_adr E.2.1 1 0)), (1, .int x1), (4, .int y0)] ⟨rfl, ⟨rfl, ⟨rfl, trivial⟩⟩⟩ rfl (zt_X2_oneSign_p108 hL  h)
          · skip
            refine kz_iload (M := kt_M246) kX2_oneSign_c6.2.2.2.2.1 rfl ?_
            refine kz_bi (M := kt_M246) 42 kX2_oneSign_c6.2.2.2.2.2.1 rfl ?_
            refine kz_icmp_ne (M := kt_M246) kX2_oneSign_c6.2.2.2.2.2.2.1 (t := 113) rfl h (fun h => ?_) (fun h => ?_)
            · skip
              refine kz_ic (M := kt_M246) (-1) kX2_oneSign_c7.2.1 rfl ?_
              exact kz_weak [(0, .ref (w_adr E.2.1 1 0)), (1, .int x1)] ⟨rfl, ⟨rfl, trivial⟩⟩ rfl (zt_X2_oneSign_p114 hL  h)
            · skip
              exact kz_weak [(0, .ref (w_adr E.2.1 1 0)), (1, .int x1), (4, .int y0)] ⟨rfl, ⟨rfl, ⟨rfl, trivial⟩⟩⟩ rfl (zt_X2_oneSign_p108 hL  h)
      · skip
        refine kz_bi (M := kt_M246) 32 kX2_oneSign_c5.2.2.2.2.1 rfl ?_
        refine kz_goto (M := kt_M246) kX2_oneSign_c5.2.2.2.2.2.1 (t := 114) rfl ?_
        exact kz_weak [(0, .ref (w_adr E.2.1 1 0)), (1, .int x1)] ⟨rfl, ⟨rfl, trivial⟩⟩ rfl (zt_X2_oneSign_p114 hL  h)
    · skip
      refine kz_bi (M := kt_M246) 9 kX2_oneSign_c4.2.2.2.2.2.2.2.1 rfl ?_
      refine kz_goto (M := kt_M246) kX2_oneSign_c5.1 (t := 114) rfl ?_
      exact kz_weak [(0, .ref (w_adr E.2.1 1 0)), (1, .int x1)] ⟨rfl, ⟨rfl, trivial⟩⟩ rfl (zt_X2_oneSign_p114 hL  h)
  · skip
    refine kz_bi (M := kt_M246) 10 kX2_oneSign_c4.2.2.1 rfl ?_
    refine kz_goto (M := kt_M246) kX2_oneSign_c4.2.2.2.1 (t := 114) rfl ?_
    exact kz_weak [(0, .ref (w_adr E.2.1 1 0)), (1, .int x1)] ⟨rfl, ⟨rfl, trivial⟩⟩ rfl (zt_X2_oneSign_p114 hL  h)
def zb_X2_oneSign_p19 (E : zE) (L : Nat) (Q : kx_Rs → wS → Prop) (x1 : Int32) (x2 : Int32) (y0 : Int32) (w : wS) : Prop := (if ¬ y0 = 42 then (if y0 < 32 then zb_X2_oneSign_p171 E L Q w else (if 126 < y0 then zb_X2_oneSign_p171 E L Q w else (if y0 = 39 then zb_X2_oneSign_p171 E L Q w else (if ¬ y0 = 34 then (kx_inb (w_i w 1 0 11) (w_n w 1 0 10) = true ∧ Q (.inl (some (.int (x1 + 1)))) (ws_a (ws_i w 1 0 11 ((w_i w 1 0 11) + 1)) 1 0 10 (w_i w 1 0 11).toNatClampNeg (vp_nar .byte ((y0).toInt8.toInt32)))) else zb_X2_oneSign_p171 E L Q w)))) else (if x2 ≤ (x1 + 1) then zb_X2_oneSign_p49 E L Q x1 (-1) w else (kx_inb (x1 + 1) (w_n w 1 0 0) = true ∧ zb_X2_oneSign_p49 E L Q x1 ((w_a w 1 0 0 ((x1 + 1)).toNatClampNeg) &&& 255) w)))
theorem zt_X2_oneSign_p19 {E : zE} {L : Nat} {Q : kx_Rs → wS → Prop} {x1 : Int32} {x2 : Int32} {y0 : Int32} {w : wS} (hL : 19 ≤ L) (h : zb_X2_oneSign_p19 E L Q x1 x2 y0 w) : kzE E L kt_M246 19 [(0, .ref (w_adr E.2.1 1 0)), (1, .int x1), (2, .int x2)] [.int y0] w Q := by
  unfold zb_X2_oneSign_p19 at h
  refine kz_sti_n (M := kt_M246) [(0, .ref (w_adr E.2.1 1 0)), (1, .int x1), (2, .int x2)] kX2_oneSign_c1.2.2.2.1 (Nat.le_of_ble_eq_true rfl) ⟨⟨rfl, rfl, .inl rfl⟩, ⟨⟨rfl, rfl, .inl rfl⟩, ⟨⟨rfl, rfl, .inr rfl⟩, trivial⟩⟩⟩ rfl ?_
  refine kz_iload_n (M := kt_M246) kX2_oneSign_c1.2.2.2.2.1 rfl ?_
  refine kz_bi (M := kt_M246) 42 kX2_oneSign_c1.2.2.2.2.2.1 rfl ?_
  refine kz_icmp_ne (M := kt_M246) kX2_oneSign_c1.2.2.2.2.2.2.1 (t := 147) rfl h (fun h => ?_) (fun h => ?_)
  · skip
    refine kz_iload_n (M := kt_M246) kX2_oneSign_c10.1 rfl ?_
    refine kz_bi (M := kt_M246) 32 kX2_oneSign_c10.2.1 rfl ?_
    refine kz_icmp_lt (M := kt_M246) kX2_oneSign_c10.2.2.1 (t := 171) rfl h (fun h => ?_) (fun h => ?_)
    · skip
      exact kz_weak [(0, .ref (w_adr E.2.1 1 0))] ⟨rfl, trivial⟩ rfl (zt_X2_oneSign_p171 hL  h)
    · skip
      refine kz_iload_n (M := kt_M246) kX2_oneSign_c10.2.2.2.1 rfl ?_
      refine kz_bi (M := kt_M246) 126 kX2_oneSign_c10.2.2.2.2.1 rfl ?_
      refine kz_icmp_gt (M := kt_M246) kX2_oneSign_c10.2.2.2.2.2.1 (t := 171) rfl h (fun h => ?_) (fun h => ?_)
      · skip
        exact kz_weak [(0, .ref (w_adr E.2.1 1 0))] ⟨rfl, trivial⟩ rfl (zt_X2_oneSign_p171 hL  h)
      · skip
        refine kz_iload_n (M := kt_M246) kX2_oneSign_c10.2.2.2.2.2.2.1 rfl ?_
        refine kz_bi (M := kt_M246) 39 kX2_oneSign_c10.2.2.2.2.2.2.2.1 rfl ?_
        refine kz_icmp_eq (M := kt_M246) kX2_oneSign_c11.1 (t := 171) rfl h (fun h => ?_) (fun h => ?_)
        · skip
          exact kz_weak [(0, .ref (w_adr E.2.1 1 0))] ⟨rfl, trivial⟩ rfl (zt_X2_oneSign_p171 hL  h)
        · skip
          refine kz_iload_n (M := kt_M246) kX2_oneSign_c11.2.1 rfl ?_
          refine kz_bi (M := kt_M246) 34 kX2_oneSign_c11.2.2.1 rfl ?_
          refine kz_icmp_ne (M := kt_M246) kX2_oneSign_c11.2.2.2.1 (t := 173) rfl h (fun h => ?_) (fun h => ?_)
          · skip
            refine kz_aload_n (M := kt_M246) kX2_oneSign_c11.2.2.2.2.2.2.1 rfl ?_
            refine kz_gfc (M := kt_M246) (x := 1266) (c := 1) (o := 0) kX2_oneSign_c11.2.2.2.2.2.2.2.1 wf_X2_36 (.inl rfl) ?_
            refine kz_aload_n (M := kt_M246) kX2_oneSign_c12.1 rfl ?_
            refine kz_dup (M := kt_M246) kX2_oneSign_c12.2.1 rfl ?_
            refine kz_gfi (M := kt_M246) (c := 1) (o := 0) kX2_oneSign_c12.2.2.1 wf_X2_107 (.inl rfl) ?_
            refine kz_dup_x1 (M := kt_M246) kX2_oneSign_c12.2.2.2.1 ⟨rfl, rfl⟩ ?_
            refine kz_ic (M := kt_M246) 1 kX2_oneSign_c12.2.2.2.2.1 rfl ?_
            refine kz_iadd (M := kt_M246) kX2_oneSign_c12.2.2.2.2.2.1 ?_
            refine kz_pfi (M := kt_M246) (c := 1) (o := 0) kX2_oneSign_c12.2.2.2.2.2.2.1 wq_X2_107 (.inl rfl) ?_
            refine kz_iload_n (M := kt_M246) kX2_oneSign_c12.2.2.2.2.2.2.2.1 rfl ?_
            refine kz_i2b (M := kt_M246) kX2_oneSign_c13.1 ?_
            refine kz_bastR (M := kt_M246) (n := w_n w 1 0 10) (c := 1) (o := 0) (k := 10) (a := (E.2.1 1266)) kX2_oneSign_c13.2.1 ow_1_0_10 oa_1_0_10 ot_1 rd_n_i h (fun h => ?_)
            refine kz_iload_n (M := kt_M246) kX2_oneSign_c13.2.2.1 rfl ?_
            refine kz_ic (M := kt_M246) 1 kX2_oneSign_c13.2.2.2.1 rfl ?_
            refine kz_iadd (M := kt_M246) kX2_oneSign_c13.2.2.2.2.1 ?_
            exact kz_iret (M := kt_M246) kX2_oneSign_c13.2.2.2.2.2.1 rfl rfl h
          · skip
            exact kz_weak [(0, .ref (w_adr E.2.1 1 0))] ⟨rfl, trivial⟩ rfl (zt_X2_oneSign_p171 hL  h)
  · skip
    refine kz_iload_n (M := kt_M246) kX2_oneSign_c1.2.2.2.2.2.2.2.1 rfl ?_
    refine kz_ic (M := kt_M246) 1 kX2_oneSign_c2.1 rfl ?_
    refine kz_iadd (M := kt_M246) kX2_oneSign_c2.2.1 ?_
    refine kz_iload_n (M := kt_M246) kX2_oneSign_c2.2.2.1 rfl ?_
    refine kz_icmp_ge (M := kt_M246) kX2_oneSign_c2.2.2.2.1 (t := 48) rfl h (fun h => ?_) (fun h => ?_)
    · skip
      refine kz_ic (M := kt_M246) (-1) kX2_oneSign_c3.2.2.2.2.2.1 rfl ?_
      exact kz_weak [(0, .ref (w_adr E.2.1 1 0)), (1, .int x1)] ⟨rfl, ⟨rfl, trivial⟩⟩ rfl (zt_X2_oneSign_p49 hL  h)
    · skip
      refine kz_aload_n (M := kt_M246) kX2_oneSign_c2.2.2.2.2.1 rfl ?_
      refine kz_gfc (M := kt_M246) (x := 1256) (c := 1) (o := 0) kX2_oneSign_c2.2.2.2.2.2.1 wf_X2_11 (.inl rfl) ?_
      refine kz_iload_n (M := kt_M246) kX2_oneSign_c2.2.2.2.2.2.2.1 rfl ?_
      refine kz_ic (M := kt_M246) 1 kX2_oneSign_c2.2.2.2.2.2.2.2.1 rfl ?_
      refine kz_iadd (M := kt_M246) kX2_oneSign_c3.1 ?_
      refine kz_bald (M := kt_M246) (c := 1) (o := 0) (k := 0) (a := (E.2.1 1256)) kX2_oneSign_c3.2.1 ow_1_0_0 oa_1_0_0 ot_1 h (fun h => ?_)
      refine kz_si (M := kt_M246) 255 kX2_oneSign_c3.2.2.1 rfl ?_
      refine kz_iand (M := kt_M246) kX2_oneSign_c3.2.2.2.1 ?_
      refine kz_goto (M := kt_M246) kX2_oneSign_c3.2.2.2.2.1 (t := 49) rfl ?_
      exact kz_weak [(0, .ref (w_adr E.2.1 1 0)), (1, .int x1)] ⟨rfl, ⟨rfl, trivial⟩⟩ rfl (zt_X2_oneSign_p49 hL  h)
def zb_X2_oneSign_p0 (E : zE) (L : Nat) (Q : kx_Rs → wS → Prop) (x1 : Int32) (x2 : Int32) (w : wS) : Prop := (if x2 ≤ x1 then zb_X2_oneSign_p19 E L Q x1 x2 (-1) w else (kx_inb x1 (w_n w 1 0 0) = true ∧ zb_X2_oneSign_p19 E L Q x1 x2 ((w_a w 1 0 0 (x1).toNatClampNeg) &&& 255) w))
theorem zt_X2_oneSign_p0 {E : zE} {L : Nat} {Q : kx_Rs → wS → Prop} {x1 : Int32} {x2 : Int32} {w : wS} (hL : 19 ≤ L) (h : zb_X2_oneSign_p0 E L Q x1 x2 w) : kzE E L kt_M246 0 [(0, .ref (w_adr E.2.1 1 0)), (1, .int x1), (2, .int x2)] [] w Q := by
  unfold zb_X2_oneSign_p0 at h
  refine kz_iload_n (M := kt_M246) kX2_oneSign_c0.1 rfl ?_
  refine kz_iload_n (M := kt_M246) kX2_oneSign_c0.2.1 rfl ?_
  refine kz_icmp_ge (M := kt_M246) kX2_oneSign_c0.2.2.1 (t := 18) rfl h (fun h => ?_) (fun h => ?_)
  · skip
    refine kz_ic (M := kt_M246) (-1) kX2_oneSign_c1.2.2.1 rfl ?_
    exact kz_weak [(0, .ref (w_adr E.2.1 1 0)), (1, .int x1), (2, .int x2)] ⟨rfl, ⟨rfl, ⟨rfl, trivial⟩⟩⟩ rfl (zt_X2_oneSign_p19 hL  h)
  · skip
    refine kz_aload_n (M := kt_M246) kX2_oneSign_c0.2.2.2.1 rfl ?_
    refine kz_gfc (M := kt_M246) (x := 1256) (c := 1) (o := 0) kX2_oneSign_c0.2.2.2.2.1 wf_X2_11 (.inl rfl) ?_
    refine kz_iload_n (M := kt_M246) kX2_oneSign_c0.2.2.2.2.2.1 rfl ?_
    refine kz_bald (M := kt_M246) (c := 1) (o := 0) (k := 0) (a := (E.2.1 1256)) kX2_oneSign_c0.2.2.2.2.2.2.1 ow_1_0_0 oa_1_0_0 ot_1 h (fun h => ?_)
    refine kz_si (M := kt_M246) 255 kX2_oneSign_c0.2.2.2.2.2.2.2.1 rfl ?_
    refine kz_iand (M := kt_M246) kX2_oneSign_c1.1 ?_
    refine kz_goto (M := kt_M246) kX2_oneSign_c1.2.1 (t := 19) rfl ?_
    exact kz_weak [(0, .ref (w_adr E.2.1 1 0)), (1, .int x1), (2, .int x2)] ⟨rfl, ⟨rfl, ⟨rfl, trivial⟩⟩⟩ rfl (zt_X2_oneSign_p19 hL  h)
def zb_X2_character_p40 (E : zE) (L : Nat) (Q : kx_Rs → wS → Prop) (w : wS) : Prop := Q (.inl (some (.int (-1)))) w
theorem zt_X2_character_p40 {E : zE} {L : Nat} {Q : kx_Rs → wS → Prop} {w : wS} (hL : 25 ≤ L) (h : zb_X2_character_p40 E L Q  w) : kzE E L kt_M237 40 [(0, .ref (w_adr E.2.1 1 0))] [] w Q := by
  unfold zb_X2_character_p40 at h
  refine kz_ic (M := kt_M237) (-1) kX2_character_c2.2.2.2.2.2.2.1 rfl ?_
  exact kz_iret (M := kt_M237) kX2_character_c2.2.2.2.2.2.2.2.1 rfl rfl h
def zb_X2_character_p0 (E : zE) (L : Nat) (Q : kx_Rs → wS → Prop) (x1 : Int32) (x2 : Int32) (x3 : Int32) (w : wS) : Prop := zw E (L - 25) kt_M246 [.ref (w_adr E.2.1 1 0), .int (x1 + 1), .int x2] w (wk1 (fun v2 w1 => wle w w1 → (if v2 = (-1) then zb_X2_character_p40 E L Q w1 else (if x2 ≤ v2 then zb_X2_character_p40 E L Q w1 else (kx_inb v2 (w_n w1 1 0 0) = true ∧ (if w_a w1 1 0 0 (v2).toNatClampNeg = 39 then (kx_inb (w_i w 1 0 11) (w_n w1 1 0 10) = true ∧ zw E (L - 24) kt_M236 [.ref (w_adr E.2.1 1 0), va_rf (some (E.1.1 4)), .int (w_a w1 1 0 10 (w_i w 1 0 11).toNatClampNeg), .int 0, .int x3] w1 (wk0 (fun w3 => wle w1 w3 → Q (.inl (some (.int (v2 + 1)))) w3) (fun e w => Q (.inr e) w))) else zb_X2_character_p40 E L Q w1))))) (fun e w => Q (.inr e) w))
theorem zt_X2_character_p0 {E : zE} {L : Nat} {Q : kx_Rs → wS → Prop} {x1 : Int32} {x2 : Int32} {x3 : Int32} {w : wS} (hL : 25 ≤ L) (h : zb_X2_character_p0 E L Q x1 x2 x3 w) : kzE E L kt_M237 0 [(0, .ref (w_adr E.2.1 1 0)), (1, .int x1), (2, .int x2), (3, .int x3)] [] w Q := by
  unfold zb_X2_character_p0 at h
  refine kz_aload_n (M := kt_M237) kX2_character_c0.1 rfl ?_
  refine kz_gfi (M := kt_M237) (c := 1) (o := 0) kX2_character_c0.2.1 wf_X2_107 (.inl rfl) ?_
  refine kz_sti (M := kt_M237) [(0, .ref (w_adr E.2.1 1 0)), (1, .int x1), (2, .int x2), (3, .int x3)] kX2_character_c0.2.2.1 (Nat.le_of_ble_eq_true rfl) ⟨⟨rfl, rfl, .inl rfl⟩, ⟨⟨rfl, rfl, .inl rfl⟩, ⟨⟨rfl, rfl, .inl rfl⟩, ⟨⟨rfl, rfl, .inr rfl⟩, trivial⟩⟩⟩⟩ rfl ?_
  refine kz_aload_n (M := kt_M237) kX2_character_c0.2.2.2.1 rfl ?_
  refine kz_iload_n (M := kt_M237) kX2_character_c0.2.2.2.2.1 rfl ?_
  refine kz_ic (M := kt_M237) 1 kX2_character_c0.2.2.2.2.2.1 rfl ?_
  refine kz_iadd (M := kt_M237) kX2_character_c0.2.2.2.2.2.2.1 ?_
  refine kz_iload_n (M := kt_M237) kX2_character_c0.2.2.2.2.2.2.2.1 rfl ?_
  refine kz_cv1 (M := kt_M237) (c := 1) (o := 0) (As := [.int (x1 + 1), .int x2]) (rest := []) kX2_character_c1.1 wl_X2_174 wMv_246 rfl (.inl rfl) rfl (Nat.le_trans (Nat.le_of_ble_eq_true rfl) hL) (Nat.le_of_ble_eq_true rfl) (Nat.le_of_ble_eq_true rfl) h (fun v2 w1 hle h => ?_) (fun _ _ _ h => kzx_no rfl h)
  have h := h hle
  refine kz_sti (M := kt_M237) [(0, .ref (w_adr E.2.1 1 0)), (2, .int x2), (3, .int x3), (4, .int (w_i w 1 0 11))] kX2_character_c1.2.1 (Nat.le_of_ble_eq_true rfl) ⟨⟨rfl, rfl, .inl rfl⟩, ⟨⟨rfl, rfl, .inl rfl⟩, ⟨⟨rfl, rfl, .inl rfl⟩, ⟨⟨rfl, rfl, .inr rfl⟩, trivial⟩⟩⟩⟩ rfl ?_
  refine kz_iload (M := kt_M237) kX2_character_c1.2.2.1 rfl ?_
  refine kz_ic (M := kt_M237) (-1) kX2_character_c1.2.2.2.1 rfl ?_
  refine kz_icmp_eq (M := kt_M237) kX2_character_c1.2.2.2.2.1 (t := 40) rfl h (fun h => ?_) (fun h => ?_)
  · skip
    exact kz_weak [(0, .ref (w_adr E.2.1 1 0))] ⟨rfl, trivial⟩ rfl (zt_X2_character_p40 hL  h)
  · skip
    refine kz_iload (M := kt_M237) kX2_character_c1.2.2.2.2.2.1 rfl ?_
    refine kz_iload_n (M := kt_M237) kX2_character_c1.2.2.2.2.2.2.1 rfl ?_
    refine kz_icmp_ge (M := kt_M237) kX2_character_c1.2.2.2.2.2.2.2.1 (t := 40) rfl h (fun h => ?_) (fun h => ?_)
    · skip
      exact kz_weak [(0, .ref (w_adr E.2.1 1 0))] ⟨rfl, trivial⟩ rfl (zt_X2_character_p40 hL  h)
    · skip
      refine kz_aload_n (M := kt_M237) kX2_character_c2.1 rfl ?_
      refine kz_gfc (M := kt_M237) (x := 1256) (c := 1) (o := 0) kX2_character_c2.2.1 wf_X2_11 (.inl rfl) ?_
      refine kz_iload (M := kt_M237) kX2_character_c2.2.2.1 rfl ?_
      refine kz_bald (M := kt_M237) (c := 1) (o := 0) (k := 0) (a := (E.2.1 1256)) kX2_character_c2.2.2.2.1 ow_1_0_0 oa_1_0_0 ot_1 h (fun h => ?_)
      refine kz_bi (M := kt_M237) 39 kX2_character_c2.2.2.2.2.1 rfl ?_
      refine kz_icmp_eq (M := kt_M237) kX2_character_c2.2.2.2.2.2.1 (t := 42) rfl h (fun h => ?_) (fun h => ?_)
      · skip
        refine kz_aload_n (M := kt_M237) kX2_character_c3.1 rfl ?_
        refine kz_getsE (M := kt_M237) (v := va_rf (some (E.1.1 4))) kX2_character_c3.2.1 zs_X2_178 ?_
        refine kz_aload_n (M := kt_M237) kX2_character_c3.2.2.1 rfl ?_
        refine kz_gfc (M := kt_M237) (x := 1266) (c := 1) (o := 0) kX2_character_c3.2.2.2.1 wf_X2_36 (.inl rfl) ?_
        refine kz_iload (M := kt_M237) kX2_character_c3.2.2.2.2.1 rfl ?_
        refine kz_bald (M := kt_M237) (c := 1) (o := 0) (k := 10) (a := (E.2.1 1266)) kX2_character_c3.2.2.2.2.2.1 ow_1_0_10 oa_1_0_10 ot_1 h (fun h => ?_)
        refine kz_ic (M := kt_M237) 0 kX2_character_c3.2.2.2.2.2.2.1 rfl ?_
        refine kz_iload_n (M := kt_M237) kX2_character_c3.2.2.2.2.2.2.2.1 rfl ?_
        refine kz_cv0 (M := kt_M237) (c := 1) (o := 0) (As := [va_rf (some (E.1.1 4)), .int (w_a w1 1 0 10 (w_i w 1 0 11).toNatClampNeg), .int 0, .int x3]) (rest := []) kX2_character_c4.1 wl_X2_118 wMv_236 rfl (.inl rfl) rfl (Nat.le_trans (Nat.le_of_ble_eq_true rfl) hL) (by simp [lg_sl, w_cat, z_ci, z_cr, z_cl, z_cn, kt_M236]) (Nat.le_of_ble_eq_true rfl) h (fun w3 hle h => ?_) (fun _ _ _ h => kzx_no rfl h)
        have h := h hle
        refine kz_iload (M := kt_M237) kX2_character_c4.2.1 rfl ?_
        refine kz_ic (M := kt_M237) 1 kX2_character_c4.2.2.1 rfl ?_
        refine kz_iadd (M := kt_M237) kX2_character_c4.2.2.2.1 ?_
        exact kz_iret (M := kt_M237) kX2_character_c4.2.2.2.2.1 rfl rfl h
      · skip
        exact kz_weak [(0, .ref (w_adr E.2.1 1 0))] ⟨rfl, trivial⟩ rfl (zt_X2_character_p40 hL  h)
def zb_X2_sign_p94 (E : zE) (L : Nat) (Q : kx_Rs → wS → Prop) (y0 : Int32) (w : wS) : Prop := Q (.inl (some (.int y0))) w
theorem zt_X2_sign_p94 {E : zE} {L : Nat} {Q : kx_Rs → wS → Prop} {y0 : Int32} {w : wS} (hL : 24 ≤ L) (h : zb_X2_sign_p94 E L Q y0 w) : kzE E L kt_M247 94 [(0, .ref (w_adr E.2.1 1 0))] [.int y0] w Q := by
  unfold zb_X2_sign_p94 at h
  exact kz_iret (M := kt_M247) kX2_sign_c6.2.2.2.2.2.2.1 rfl rfl h
def zb_X2_sign_p58 (E : zE) (L : Nat) (Q : kx_Rs → wS → Prop) (x1 : Int32) (x3 : Int32) (x5 : Int32) (y0 : Int32) (w : wS) : Prop := (if ¬ y0 = (-1) then zw E (L - 24) kt_M236 [.ref (w_adr E.2.1 1 0), va_rf (some (E.1.1 5)), .int y0, .int 0, .int x3] w (wk0 (fun w1 => wle w w1 → (if x5 = (-1) then zb_X2_sign_p94 E L Q (x1 + 1) w1 else zb_X2_sign_p94 E L Q (x1 + 2) w1)) (fun e w => Q (.inr e) w)) else Q (.inl (some (.int (-1)))) w)
theorem zt_X2_sign_p58 {E : zE} {L : Nat} {Q : kx_Rs → wS → Prop} {x1 : Int32} {x3 : Int32} {x5 : Int32} {y0 : Int32} {w : wS} (hL : 24 ≤ L) (h : zb_X2_sign_p58 E L Q x1 x3 x5 y0 w) : kzE E L kt_M247 58 [(0, .ref (w_adr E.2.1 1 0)), (1, .int x1), (3, .int x3), (5, .int x5)] [.int y0] w Q := by
  unfold zb_X2_sign_p58 at h
  refine kz_sti (M := kt_M247) [(0, .ref (w_adr E.2.1 1 0)), (1, .int x1), (3, .int x3), (5, .int x5)] kX2_sign_c4.1 (Nat.le_of_ble_eq_true rfl) ⟨⟨rfl, rfl, .inl rfl⟩, ⟨⟨rfl, rfl, .inl rfl⟩, ⟨⟨rfl, rfl, .inl rfl⟩, ⟨⟨rfl, rfl, .inr rfl⟩, trivial⟩⟩⟩⟩ rfl ?_
  refine kz_iload (M := kt_M247) kX2_sign_c4.2.1 rfl ?_
  refine kz_ic (M := kt_M247) (-1) kX2_sign_c4.2.2.1 rfl ?_
  refine kz_icmp_ne (M := kt_M247) kX2_sign_c4.2.2.2.1 (t := 68) rfl h (fun h => ?_) (fun h => ?_)
  · skip
    refine kz_aload_n (M := kt_M247) kX2_sign_c4.2.2.2.2.2.2.1 rfl ?_
    refine kz_getsE (M := kt_M247) (v := va_rf (some (E.1.1 5))) kX2_sign_c4.2.2.2.2.2.2.2.1 zs_X2_190 ?_
    refine kz_iload (M := kt_M247) kX2_sign_c5.1 rfl ?_
    refine kz_ic (M := kt_M247) 0 kX2_sign_c5.2.1 rfl ?_
    refine kz_iload_n (M := kt_M247) kX2_sign_c5.2.2.1 rfl ?_
    refine kz_cv0 (M := kt_M247) (c := 1) (o := 0) (As := [va_rf (some (E.1.1 5)), .int y0, .int 0, .int x3]) (rest := []) kX2_sign_c5.2.2.2.1 wl_X2_118 wMv_236 rfl (.inl rfl) rfl (Nat.le_trans (Nat.le_of_ble_eq_true rfl) hL) (by simp [lg_sl, w_cat, z_ci, z_cr, z_cl, z_cn, kt_M236]) (Nat.le_of_ble_eq_true rfl) h (fun w1 hle h => ?_) (fun _ _ _ h => kzx_no rfl h)
    have h := h hle
    refine kz_iload (M := kt_M247) kX2_sign_c5.2.2.2.2.1 rfl ?_
    refine kz_ic (M := kt_M247) (-1) kX2_sign_c5.2.2.2.2.2.1 rfl ?_
    refine kz_icmp_eq (M := kt_M247) kX2_sign_c5.2.2.2.2.2.2.1 (t := 91) rfl h (fun h => ?_) (fun h => ?_)
    · skip
      refine kz_iload_n (M := kt_M247) kX2_sign_c6.2.2.2.1 rfl ?_
      refine kz_ic (M := kt_M247) 1 kX2_sign_c6.2.2.2.2.1 rfl ?_
      refine kz_iadd (M := kt_M247) kX2_sign_c6.2.2.2.2.2.1 ?_
      exact kz_weak [(0, .ref (w_adr E.2.1 1 0))] ⟨rfl, trivial⟩ rfl (zt_X2_sign_p94 hL  h)
    · skip
      refine kz_iload_n (M := kt_M247) kX2_sign_c5.2.2.2.2.2.2.2.1 rfl ?_
      refine kz_ic (M := kt_M247) 2 kX2_sign_c6.1 rfl ?_
      refine kz_iadd (M := kt_M247) kX2_sign_c6.2.1 ?_
      refine kz_goto (M := kt_M247) kX2_sign_c6.2.2.1 (t := 94) rfl ?_
      exact kz_weak [(0, .ref (w_adr E.2.1 1 0))] ⟨rfl, trivial⟩ rfl (zt_X2_sign_p94 hL  h)
  · skip
    refine kz_ic (M := kt_M247) (-1) kX2_sign_c4.2.2.2.2.1 rfl ?_
    exact kz_iret (M := kt_M247) kX2_sign_c4.2.2.2.2.2.1 rfl rfl h
def zb_X2_sign_p40 (E : zE) (L : Nat) (Q : kx_Rs → wS → Prop) (x1 : Int32) (x3 : Int32) (x4 : Int32) (y0 : Int32) (w : wS) : Prop := (if y0 = (-1) then zw E (L - 20) kt_M334 [.int x4] w (wk1 (fun v2 w1 => wle w w1 → zb_X2_sign_p58 E L Q x1 x3 y0 v2 w1) (fun e w => Q (.inr e) w)) else zb_X2_sign_p58 E L Q x1 x3 y0 y0 w)
theorem zt_X2_sign_p40 {E : zE} {L : Nat} {Q : kx_Rs → wS → Prop} {x1 : Int32} {x3 : Int32} {x4 : Int32} {y0 : Int32} {w : wS} (hL : 24 ≤ L) (h : zb_X2_sign_p40 E L Q x1 x3 x4 y0 w) : kzE E L kt_M247 40 [(0, .ref (w_adr E.2.1 1 0)), (1, .int x1), (3, .int x3), (4, .int x4)] [.int y0] w Q := by
  unfold zb_X2_sign_p40 at h
  refine kz_sti (M := kt_M247) [(0, .ref (w_adr E.2.1 1 0)), (1, .int x1), (3, .int x3), (4, .int x4)] kX2_sign_c3.1 (Nat.le_of_ble_eq_true rfl) ⟨⟨rfl, rfl, .inl rfl⟩, ⟨⟨rfl, rfl, .inl rfl⟩, ⟨⟨rfl, rfl, .inl rfl⟩, ⟨⟨rfl, rfl, .inr rfl⟩, trivial⟩⟩⟩⟩ rfl ?_
  refine kz_iload (M := kt_M247) kX2_sign_c3.2.1 rfl ?_
  refine kz_ic (M := kt_M247) (-1) kX2_sign_c3.2.2.1 rfl ?_
  refine kz_icmp_eq (M := kt_M247) kX2_sign_c3.2.2.2.1 (t := 53) rfl h (fun h => ?_) (fun h => ?_)
  · skip
    refine kz_iload (M := kt_M247) kX2_sign_c3.2.2.2.2.2.2.1 rfl ?_
    refine kz_cs1 (M := kt_M247) (As := [.int x4]) (rest := []) kX2_sign_c3.2.2.2.2.2.2.2.1 wl_X2_187 wMs_334 rfl (Nat.le_trans (Nat.le_of_ble_eq_true rfl) hL) (Nat.le_of_ble_eq_true rfl) (Nat.le_of_ble_eq_true rfl) h (fun v2 w1 hle h => ?_) (fun _ _ _ h => kzx_no rfl h)
    have h := h hle
    exact kz_weak [(0, .ref (w_adr E.2.1 1 0)), (1, .int x1), (3, .int x3), (5, .int y0)] ⟨rfl, ⟨rfl, ⟨rfl, ⟨rfl, trivial⟩⟩⟩⟩ rfl (zt_X2_sign_p58 hL  h)
  · skip
    refine kz_iload (M := kt_M247) kX2_sign_c3.2.2.2.2.1 rfl ?_
    refine kz_goto (M := kt_M247) kX2_sign_c3.2.2.2.2.2.1 (t := 58) rfl ?_
    exact kz_weak [(0, .ref (w_adr E.2.1 1 0)), (1, .int x1), (3, .int x3), (5, .int y0)] ⟨rfl, ⟨rfl, ⟨rfl, ⟨rfl, trivial⟩⟩⟩⟩ rfl (zt_X2_sign_p58 hL  h)
def zb_X2_sign_p0 (E : zE) (L : Nat) (Q : kx_Rs → wS → Prop) (x1 : Int32) (x2 : Int32) (x3 : Int32) (w : wS) : Prop := (kx_inb x1 (w_n w 1 0 0) = true ∧ (if x2 ≤ (x1 + 1) then zb_X2_sign_p40 E L Q x1 x3 ((w_a w 1 0 0 (x1).toNatClampNeg) &&& 255) (-1) w else (kx_inb (x1 + 1) (w_n w 1 0 0) = true ∧ zw E (L - 21) kt_M335 [.int ((w_a w 1 0 0 (x1).toNatClampNeg) &&& 255), .int ((w_a w 1 0 0 ((x1 + 1)).toNatClampNeg) &&& 255)] w (wk1 (fun v2 w1 => wle w w1 → zb_X2_sign_p40 E L Q x1 x3 ((w_a w 1 0 0 (x1).toNatClampNeg) &&& 255) v2 w1) (fun e w => Q (.inr e) w)))))
theorem zt_X2_sign_p0 {E : zE} {L : Nat} {Q : kx_Rs → wS → Prop} {x1 : Int32} {x2 : Int32} {x3 : Int32} {w : wS} (hL : 24 ≤ L) (h : zb_X2_sign_p0 E L Q x1 x2 x3 w) : kzE E L kt_M247 0 [(0, .ref (w_adr E.2.1 1 0)), (1, .int x1), (2, .int x2), (3, .int x3)] [] w Q := by
  unfold zb_X2_sign_p0 at h
  refine kz_aload_n (M := kt_M247) kX2_sign_c0.1 rfl ?_
  refine kz_gfc (M := kt_M247) (x := 1256) (c := 1) (o := 0) kX2_sign_c0.2.1 wf_X2_11 (.inl rfl) ?_
  refine kz_iload_n (M := kt_M247) kX2_sign_c0.2.2.1 rfl ?_
  refine kz_bald (M := kt_M247) (c := 1) (o := 0) (k := 0) (a := (E.2.1 1256)) kX2_sign_c0.2.2.2.1 ow_1_0_0 oa_1_0_0 ot_1 h (fun h => ?_)
  refine kz_si (M := kt_M247) 255 kX2_sign_c0.2.2.2.2.1 rfl ?_
  refine kz_iand (M := kt_M247) kX2_sign_c0.2.2.2.2.2.1 ?_
  refine kz_sti (M := kt_M247) [(0, .ref (w_adr E.2.1 1 0)), (1, .int x1), (2, .int x2), (3, .int x3)] kX2_sign_c0.2.2.2.2.2.2.1 (Nat.le_of_ble_eq_true rfl) ⟨⟨rfl, rfl, .inl rfl⟩, ⟨⟨rfl, rfl, .inl rfl⟩, ⟨⟨rfl, rfl, .inl rfl⟩, ⟨⟨rfl, rfl, .inr rfl⟩, trivial⟩⟩⟩⟩ rfl ?_
  refine kz_iload_n (M := kt_M247) kX2_sign_c0.2.2.2.2.2.2.2.1 rfl ?_
  refine kz_ic (M := kt_M247) 1 kX2_sign_c1.1 rfl ?_
  refine kz_iadd (M := kt_M247) kX2_sign_c1.2.1 ?_
  refine kz_iload_n (M := kt_M247) kX2_sign_c1.2.2.1 rfl ?_
  refine kz_icmp_ge (M := kt_M247) kX2_sign_c1.2.2.2.1 (t := 39) rfl h (fun h => ?_) (fun h => ?_)
  · skip
    refine kz_ic (M := kt_M247) (-1) kX2_sign_c2.2.2.2.2.2.2.2.1 rfl ?_
    exact kz_weak [(0, .ref (w_adr E.2.1 1 0)), (1, .int x1), (3, .int x3), (4, .int ((w_a w 1 0 0 (x1).toNatClampNeg) &&& 255))] ⟨rfl, ⟨rfl, ⟨rfl, ⟨rfl, trivial⟩⟩⟩⟩ rfl (zt_X2_sign_p40 hL  h)
  · skip
    refine kz_iload (M := kt_M247) kX2_sign_c1.2.2.2.2.1 rfl ?_
    refine kz_aload_n (M := kt_M247) kX2_sign_c1.2.2.2.2.2.1 rfl ?_
    refine kz_gfc (M := kt_M247) (x := 1256) (c := 1) (o := 0) kX2_sign_c1.2.2.2.2.2.2.1 wf_X2_11 (.inl rfl) ?_
    refine kz_iload_n (M := kt_M247) kX2_sign_c1.2.2.2.2.2.2.2.1 rfl ?_
    refine kz_ic (M := kt_M247) 1 kX2_sign_c2.1 rfl ?_
    refine kz_iadd (M := kt_M247) kX2_sign_c2.2.1 ?_
    refine kz_bald (M := kt_M247) (c := 1) (o := 0) (k := 0) (a := (E.2.1 1256)) kX2_sign_c2.2.2.1 ow_1_0_0 oa_1_0_0 ot_1 h (fun h => ?_)
    refine kz_si (M := kt_M247) 255 kX2_sign_c2.2.2.2.1 rfl ?_
    refine kz_iand (M := kt_M247) kX2_sign_c2.2.2.2.2.1 ?_
    refine kz_cs1 (M := kt_M247) (As := [.int ((w_a w 1 0 0 (x1).toNatClampNeg) &&& 255), .int ((w_a w 1 0 0 ((x1 + 1)).toNatClampNeg) &&& 255)]) (rest := []) kX2_sign_c2.2.2.2.2.2.1 wl_X2_184 wMs_335 rfl (Nat.le_trans (Nat.le_of_ble_eq_true rfl) hL) (Nat.le_of_ble_eq_true rfl) (Nat.le_of_ble_eq_true rfl) h (fun v2 w1 hle h => ?_) (fun _ _ _ h => kzx_no rfl h)
    have h := h hle
    refine kz_goto (M := kt_M247) kX2_sign_c2.2.2.2.2.2.2.1 (t := 40) rfl ?_
    exact kz_weak [(0, .ref (w_adr E.2.1 1 0)), (1, .int x1), (3, .int x3), (4, .int ((w_a w 1 0 0 (x1).toNatClampNeg) &&& 255))] ⟨rfl, ⟨rfl, ⟨rfl, ⟨rfl, trivial⟩⟩⟩⟩ rfl (zt_X2_sign_p40 hL  h)
def zb_X3_first_p0 (E : zE) (L : Nat) (Q : kx_Rs → wS → Prop) (x1 : Int32) (x2 : Int32) (w : wS) : Prop := Q (.inr "java/lang/ArithmeticException") (ws_i (ws_i w 2 0 1 x1) 2 0 2 x2)
theorem zt_X3_first_p0 {E : zE} {L : Nat} {Q : kx_Rs → wS → Prop} {x1 : Int32} {x2 : Int32} {w : wS} (hL : 19 ≤ L) (h : zb_X3_first_p0 E L Q x1 x2 w) : kzE E L kt_M55 0 [(0, .ref (w_adr E.2.1 2 0)), (1, .int x1), (2, .int x2)] [] w Q := by
  unfold zb_X3_first_p0 at h
  refine kz_aload_n (M := kt_M55) kX3_first_c0.1 rfl ?_
  refine kz_iload_n (M := kt_M55) kX3_first_c0.2.1 rfl ?_
  refine kz_pfi (M := kt_M55) (c := 2) (o := 0) kX3_first_c0.2.2.1 wq_X3_16 (.inl rfl) ?_
  refine kz_aload_n (M := kt_M55) kX3_first_c0.2.2.2.1 rfl ?_
  refine kz_iload_n (M := kt_M55) kX3_first_c0.2.2.2.2.1 rfl ?_
  refine kz_pfi (M := kt_M55) (c := 2) (o := 0) kX3_first_c0.2.2.2.2.2.1 wq_X3_20 (.inl rfl) ?_
  refine kz_aload_n (M := kt_M55) kX3_first_c0.2.2.2.2.2.2.1 rfl ?_
  refine kz_gfc (M := kt_M55) (x := 72) (c := 2) (o := 0) kX3_first_c0.2.2.2.2.2.2.2.1 wf_X3_10 (.inl rfl) ?_
  exact kz_throw (x := some (w_adr E.2.1 18 0)) (M := kt_M55) (c := 18) (o := 0) kX3_first_c1.1 rfl (.inl rfl) ⟨rfl, h⟩ (fun h => kzx_no rfl h)
def zb_X4_init_p0 (E : zE) (L : Nat) (Q : kx_Rs → wS → Prop) (w : wS) : Prop := ((¬ (64 : Int32) < 0 ∧ (64 : Int32).toNatClampNeg * 4 ≤ 536870912 ∧ 1 ≤ w_C w ∧ (64 : Int32).toNatClampNeg ≤ w_S w) ∧ ((w_o (ws_new w 5 (64 : Int32).toNatClampNeg) (w_z w) = some (99, (w_z w), 0) ∧ w_t (ws_new w 5 (64 : Int32).toNatClampNeg) (w_z w) = 5) ∧ ((¬ (32 : Int32) < 0 ∧ (32 : Int32).toNatClampNeg * 4 ≤ 536870912 ∧ 1 ≤ w_C (ws_put (ws_new w 5 (64 : Int32).toNatClampNeg) 3 0 0 (w_z w)) ∧ (32 : Int32).toNatClampNeg ≤ w_S (ws_put (ws_new w 5 (64 : Int32).toNatClampNeg) 3 0 0 (w_z w))) ∧ ((w_o (ws_new (ws_put (ws_new w 5 (64 : Int32).toNatClampNeg) 3 0 0 (w_z w)) 6 (32 : Int32).toNatClampNeg) (w_z (ws_put (ws_new w 5 (64 : Int32).toNatClampNeg) 3 0 0 (w_z w))) = some (99, (w_z (ws_put (ws_new w 5 (64 : Int32).toNatClampNeg) 3 0 0 (w_z w))), 0) ∧ w_t (ws_new (ws_put (ws_new w 5 (64 : Int32).toNatClampNeg) 3 0 0 (w_z w)) 6 (32 : Int32).toNatClampNeg) (w_z (ws_put (ws_new w 5 (64 : Int32).toNatClampNeg) 3 0 0 (w_z w))) = 6) ∧ ((¬ (8 : Int32) < 0 ∧ (8 : Int32).toNatClampNeg * 4 ≤ 536870912 ∧ 1 ≤ w_C (ws_put (ws_new (ws_put (ws_new w 5 (64 : Int32).toNatClampNeg) 3 0 0 (w_z w)) 6 (32 : Int32).toNatClampNeg) 3 0 1 (w_z (ws_put (ws_new w 5 (64 : Int32).toNatClampNeg) 3 0 0 (w_z w)))) ∧ (8 : Int32).toNatClampNeg ≤ w_S (ws_put (ws_new (ws_put (ws_new w 5 (64 : Int32).toNatClampNeg) 3 0 0 (w_z w)) 6 (32 : Int32).toNatClampNeg) 3 0 1 (w_z (ws_put (ws_new w 5 (64 : Int32).toNatClampNeg) 3 0 0 (w_z w))))) ∧ ((w_o (ws_new (ws_put (ws_new (ws_put (ws_new w 5 (64 : Int32).toNatClampNeg) 3 0 0 (w_z w)) 6 (32 : Int32).toNatClampNeg) 3 0 1 (w_z (ws_put (ws_new w 5 (64 : Int32).toNatClampNeg) 3 0 0 (w_z w)))) 7 (8 : Int32).toNatClampNeg) (w_z (ws_put (ws_new (ws_put (ws_new w 5 (64 : Int32).toNatClampNeg) 3 0 0 (w_z w)) 6 (32 : Int32).toNatClampNeg) 3 0 1 (w_z (ws_put (ws_new w 5 (64 : Int32).toNatClampNeg) 3 0 0 (w_z w))))) = some (99, (w_z (ws_put (ws_new (ws_put (ws_new w 5 (64 : Int32).toNatClampNeg) 3 0 0 (w_z w)) 6 (32 : Int32).toNatClampNeg) 3 0 1 (w_z (ws_put (ws_new w 5 (64 : Int32).toNatClampNeg) 3 0 0 (w_z w))))), 0) ∧ w_t (ws_new (ws_put (ws_new (ws_put (ws_new w 5 (64 : Int32).toNatClampNeg) 3 0 0 (w_z w)) 6 (32 : Int32).toNatClampNeg) 3 0 1 (w_z (ws_put (ws_new w 5 (64 : Int32).toNatClampNeg) 3 0 0 (w_z w)))) 7 (8 : Int32).toNatClampNeg) (w_z (ws_put (ws_new (ws_put (ws_new w 5 (64 : Int32).toNatClampNeg) 3 0 0 (w_z w)) 6 (32 : Int32).toNatClampNeg) 3 0 1 (w_z (ws_put (ws_new w 5 (64 : Int32).toNatClampNeg) 3 0 0 (w_z w))))) = 7) ∧ Q (.inl none) (ws_put (ws_new (ws_put (ws_new (ws_put (ws_new w 5 (64 : Int32).toNatClampNeg) 3 0 0 (w_z w)) 6 (32 : Int32).toNatClampNeg) 3 0 1 (w_z (ws_put (ws_new w 5 (64 : Int32).toNatClampNeg) 3 0 0 (w_z w)))) 7 (8 : Int32).toNatClampNeg) 3 0 2 (w_z (ws_put (ws_new (ws_put (ws_new w 5 (64 : Int32).toNatClampNeg) 3 0 0 (w_z w)) 6 (32 : Int32).toNatClampNeg) 3 0 1 (w_z (ws_put (ws_new w 5 (64 : Int32).toNatClampNeg) 3 0 0 (w_z w))))))))))))
theorem zt_X4_init_p0 {E : zE} {L : Nat} {Q : kx_Rs → wS → Prop} {w : wS} (hL : 30 ≤ L) (h : zb_X4_init_p0 E L Q  w) : kzE E L kt_M223 0 [(0, .ref (w_adr E.2.1 3 0))] [] w Q := by
  unfold zb_X4_init_p0 at h
  refine kz_aload_n (M := kt_M223) kX4_init_c0.1 rfl ?_
  refine kz_oinit (M := kt_M223) kX4_init_c0.2.1 zoi_X4_1 (Nat.le_trans (by simp [kx_cat, w_cat, z_ci, z_cr, z_cl, z_cn]) hL) ?_
  refine kz_aload_n (M := kt_M223) kX4_init_c0.2.2.1 rfl ?_
  refine kz_bi (M := kt_M223) 64 kX4_init_c0.2.2.2.1 rfl ?_
  refine kz_newr (M := kt_M223) (τ := 1) (C := "MeetingHouse$Node") kX4_init_c0.2.2.2.2.1 zkl_X4_7 zft_5 ot_5 zao_5 h (fun h => ?_)
  refine kz_pfa (M := kt_M223) (c := 3) (o := 0) (τ := 5) kX4_init_c0.2.2.2.2.2.1 wq_X4_9 (.inl rfl) rfl h (fun h => ?_)
  refine kz_aload_n (M := kt_M223) kX4_init_c0.2.2.2.2.2.2.1 rfl ?_
  refine kz_bi (M := kt_M223) 32 kX4_init_c0.2.2.2.2.2.2.2.1 rfl ?_
  refine kz_newr (M := kt_M223) (τ := 2) (C := "MeetingHouse$Symbol") kX4_init_c1.1 zkl_X4_15 zft_6 ot_6 zao_6 h (fun h => ?_)
  refine kz_pfa (M := kt_M223) (c := 3) (o := 0) (τ := 6) kX4_init_c1.2.1 wq_X4_17 (.inl rfl) rfl h (fun h => ?_)
  refine kz_aload_n (M := kt_M223) kX4_init_c1.2.2.1 rfl ?_
  refine kz_bi (M := kt_M223) 8 kX4_init_c1.2.2.2.1 rfl ?_
  refine kz_newr (M := kt_M223) (τ := 3) (C := "MeetingHouse$Unit") kX4_init_c1.2.2.2.2.1 zkl_X4_21 zft_7 ot_7 zao_7 h (fun h => ?_)
  refine kz_pfa (M := kt_M223) (c := 3) (o := 0) (τ := 7) kX4_init_c1.2.2.2.2.2.1 wq_X4_23 (.inl rfl) rfl h (fun h => ?_)
  exact kz_ret (M := kt_M223) kX4_init_c1.2.2.2.2.2.2.1 rfl h
def zb_X4_clear_p0 (E : zE) (L : Nat) (Q : kx_Rs → wS → Prop) (w : wS) : Prop := Q (.inl none) (ws_i (ws_i (ws_i w 3 0 3 0) 3 0 4 0) 3 0 5 0)
theorem zt_X4_clear_p0 {E : zE} {L : Nat} {Q : kx_Rs → wS → Prop} {w : wS} (hL : 19 ≤ L) (h : zb_X4_clear_p0 E L Q  w) : kzE E L kt_M224 0 [(0, .ref (w_adr E.2.1 3 0))] [] w Q := by
  unfold zb_X4_clear_p0 at h
  refine kz_aload_n (M := kt_M224) kX4_clear_c0.1 rfl ?_
  refine kz_ic (M := kt_M224) 0 kX4_clear_c0.2.1 rfl ?_
  refine kz_pfi (M := kt_M224) (c := 3) (o := 0) kX4_clear_c0.2.2.1 wq_X4_27 (.inl rfl) ?_
  refine kz_aload_n (M := kt_M224) kX4_clear_c0.2.2.2.1 rfl ?_
  refine kz_ic (M := kt_M224) 0 kX4_clear_c0.2.2.2.2.1 rfl ?_
  refine kz_pfi (M := kt_M224) (c := 3) (o := 0) kX4_clear_c0.2.2.2.2.2.1 wq_X4_31 (.inl rfl) ?_
  refine kz_aload_n (M := kt_M224) kX4_clear_c0.2.2.2.2.2.2.1 rfl ?_
  refine kz_ic (M := kt_M224) 0 kX4_clear_c0.2.2.2.2.2.2.2.1 rfl ?_
  refine kz_pfi (M := kt_M224) (c := 3) (o := 0) kX4_clear_c1.1 wq_X4_34 (.inl rfl) ?_
  exact kz_ret (M := kt_M224) kX4_clear_c1.2.1 rfl h
def zb_X4_node_p72 (E : zE) (L : Nat) (Q : kx_Rs → wS → Prop) (x1 : Option Nat) (x2 : Int32) (x3 : Int32) (w : wS) : Prop := (kx_inb (w_i w 3 0 3) (w_n w 3 0 0) = true ∧ (∃ p1, w_r w 3 0 0 (w_i w 3 0 3).toNatClampNeg = some p1 ∧ w_l (ws_i w 3 0 3 ((w_i w 3 0 3) + 1)) E.2.1 14 p1 ∧ zw E (L - 23) kt_M158 [.ref p1, va_rf (x1), .int x2, .int x3] (ws_i w 3 0 3 ((w_i w 3 0 3) + 1)) (wkr (fun v3 w2 => wle (ws_i w 3 0 3 ((w_i w 3 0 3) + 1)) w2 → Q (.inl (some (va_rf (v3)))) w2) (fun e w => Q (.inr e) w))))
theorem zt_X4_node_p72 {E : zE} {L : Nat} {Q : kx_Rs → wS → Prop} {x1 : Option Nat} {x2 : Int32} {x3 : Int32} {w : wS} (hL : 60 ≤ L) (h : zb_X4_node_p72 E L Q x1 x2 x3 w) : kzE E L kt_M225 72 [(0, .ref (w_adr E.2.1 3 0)), (1, va_rf (x1)), (2, .int x2), (3, .int x3)] [] w Q := by
  unfold zb_X4_node_p72 at h
  refine kz_aload_n (M := kt_M225) kX4_node_c4.2.2.2.2.2.1 rfl ?_
  refine kz_gfa (M := kt_M225) (c := 3) (o := 0) kX4_node_c4.2.2.2.2.2.2.1 wf_X4_9 (.inl rfl) ?_
  refine kz_aload_n (M := kt_M225) kX4_node_c4.2.2.2.2.2.2.2.1 rfl ?_
  refine kz_dup (M := kt_M225) kX4_node_c5.1 rfl ?_
  refine kz_gfi (M := kt_M225) (c := 3) (o := 0) kX4_node_c5.2.1 wf_X4_27 (.inl rfl) ?_
  refine kz_dup_x1 (M := kt_M225) kX4_node_c5.2.2.1 ⟨rfl, rfl⟩ ?_
  refine kz_ic (M := kt_M225) 1 kX4_node_c5.2.2.2.1 rfl ?_
  refine kz_iadd (M := kt_M225) kX4_node_c5.2.2.2.2.1 ?_
  refine kz_pfi (M := kt_M225) (c := 3) (o := 0) kX4_node_c5.2.2.2.2.2.1 wq_X4_27 (.inl rfl) ?_
  refine kz_aaldR (M := kt_M225) (τ := 1) (n := w_n w 3 0 0) (c := 3) (o := 0) (k := 0) (a := (w_d w 3 0 0)) (w_r w 3 0 0 (w_i w 3 0 3).toNatClampNeg) kX4_node_c5.2.2.2.2.2.2.1 ow_3_0_0 rfl ot_5 rfl rd_n_i rd_r_i h (fun h => ?_)
  refine kz_aload_nv (M := kt_M225) (x := x1) kX4_node_c5.2.2.2.2.2.2.2.1 rfl ?_
  refine kz_iload_n (M := kt_M225) kX4_node_c6.1 rfl ?_
  refine kz_iload_n (M := kt_M225) kX4_node_c6.2.1 rfl ?_
  obtain ⟨p1, hxp1, hlp1, h⟩ := h
  refine kz_nz3 (x := w_r w 3 0 0 (w_i w 3 0 3).toNatClampNeg) hxp1 ?_
  refine kz_cvr (M := kt_M225) (c := 14) (o := p1) (As := [va_rf (x1), .int x2, .int x3]) (rest := []) kX4_node_c6.2.2.1 wl_X4_44 wMv_158 rfl (.inr (by exact hlp1)) rfl (Nat.le_trans (Nat.le_of_ble_eq_true rfl) hL) (by simp [lg_sl, w_cat, z_ci, z_cr, z_cl, z_cn, kt_M158]) (Nat.le_of_ble_eq_true rfl) h (fun v3 w2 hle h => ?_) (fun _ _ _ h => kzx_no rfl h)
  have h := h hle
  have hlp1 := w_l_le hlp1 hle
  exact kz_areto (x := v3) (M := kt_M225) kX4_node_c6.2.2.2.1 rfl h
def zb_X4_node_p44 (E : zE) (L : Nat) (Q : kx_Rs → wS → Prop) (x1 : Option Nat) (x2 : Int32) (x3 : Int32) (w : wS) : Prop := (kx_inb (w_i w 3 0 3) (w_n w 3 0 0) = true ∧ (if ¬ (w_r w 3 0 0 (w_i w 3 0 3).toNatClampNeg) = none then zb_X4_node_p72 E L Q x1 x2 x3 w else ((1 ≤ w_C w ∧ 22 ≤ w_S w) ∧ zw E (L - 20) kt_M157 [.ref (w_z w)] (ws_obj w 14 22) (wk0 (fun w2 => wle (ws_obj w 14 22) w2 → (w_d w2 3 0 0 = w_d w 3 0 0 ∧ kx_inb (w_i w 3 0 3) (w_n w2 3 0 0) = true ∧ zb_X4_node_p72 E L Q x1 x2 x3 (ws_r w2 3 0 0 (w_i w 3 0 3).toNatClampNeg (some (w_z w))))) (fun e w => Q (.inr e) w)))))
theorem zt_X4_node_p44 {E : zE} {L : Nat} {Q : kx_Rs → wS → Prop} {x1 : Option Nat} {x2 : Int32} {x3 : Int32} {w : wS} (hL : 60 ≤ L) (h : zb_X4_node_p44 E L Q x1 x2 x3 w) : kzE E L kt_M225 44 [(0, .ref (w_adr E.2.1 3 0)), (1, va_rf (x1)), (2, .int x2), (3, .int x3)] [] w Q := by
  unfold zb_X4_node_p44 at h
  refine kz_aload_n (M := kt_M225) kX4_node_c2.2.2.2.2.2.2.2.1 rfl ?_
  refine kz_gfa (M := kt_M225) (c := 3) (o := 0) kX4_node_c3.1 wf_X4_9 (.inl rfl) ?_
  refine kz_aload_n (M := kt_M225) kX4_node_c3.2.1 rfl ?_
  refine kz_gfi (M := kt_M225) (c := 3) (o := 0) kX4_node_c3.2.2.1 wf_X4_27 (.inl rfl) ?_
  refine kz_aald (M := kt_M225) (τ := 1) (c := 3) (o := 0) (k := 0) (a := (w_d w 3 0 0)) kX4_node_c3.2.2.2.1 ow_3_0_0 oa_3_0_0 ot_5 rfl h (fun h => ?_)
  refine kz_ifnonnull (M := kt_M225) (x := w_r w 3 0 0 (w_i w 3 0 3).toNatClampNeg) kX4_node_c3.2.2.2.2.1 (t := 72) rfl h (fun h => ?_) (fun h => ?_)
  · skip
    exact kz_weak [(0, .ref (w_adr E.2.1 3 0)), (1, va_rf (x1)), (2, .int x2), (3, .int x3)] ⟨rfl, ⟨rfl, ⟨rfl, ⟨rfl, trivial⟩⟩⟩⟩ rfl (zt_X4_node_p72 hL  h)
  · skip
    refine kz_aload_n (M := kt_M225) kX4_node_c3.2.2.2.2.2.1 rfl ?_
    refine kz_gfa (M := kt_M225) (c := 3) (o := 0) kX4_node_c3.2.2.2.2.2.2.1 wf_X4_9 (.inl rfl) ?_
    refine kz_aload_n (M := kt_M225) kX4_node_c3.2.2.2.2.2.2.2.1 rfl ?_
    refine kz_gfi (M := kt_M225) (c := 3) (o := 0) kX4_node_c4.1 wf_X4_27 (.inl rfl) ?_
    refine kz_newo (M := kt_M225) (c := 14) (n := 22) kX4_node_c4.2.1 zn_X4_7 h (fun h => ?_)
    have hlz1 : w_l (ws_obj w 14 22) E.2.1 14 (w_z w) := w_l_obj rfl
    refine kz_dup (M := kt_M225) kX4_node_c4.2.2.1 rfl ?_
    refine kz_ci0 (M := kt_M225) (b := (w_z w)) (As := []) (rest := [.ref (w_z w), .int (w_i w 3 0 3), .ref (w_d w 3 0 0)]) kX4_node_c4.2.2.2.1 wli_X4_43 rfl (Nat.le_trans (Nat.le_of_ble_eq_true rfl) hL) (Nat.le_of_ble_eq_true rfl) (Nat.le_of_ble_eq_true rfl) h (fun w2 hle h => ?_) (fun _ _ _ h => kzx_no rfl h)
    have h := h hle
    have hlz1 := w_l_le hlz1 hle
    obtain ⟨h0, h⟩ := h
    refine kz_aasto (M := kt_M225) (C1 := "") (τ := 1) (ci := 14) (c := 3) (o := 0) (k := 0) (a := (w_d w 3 0 0)) (v := (w_z w)) kX4_node_c4.2.2.2.2.1 ow_3_0_0 h0 rfl rfl rfl (by exact hlz1) h (fun h => ?_)
    exact kz_weak [(0, .ref (w_adr E.2.1 3 0)), (1, va_rf (x1)), (2, .int x2), (3, .int x3)] ⟨rfl, ⟨rfl, ⟨rfl, ⟨rfl, trivial⟩⟩⟩⟩ rfl (zt_X4_node_p72 hL  h)
def zb_X4_node_p0 (E : zE) (L : Nat) (Q : kx_Rs → wS → Prop) (x1 : Option Nat) (x2 : Int32) (x3 : Int32) (w : wS) : Prop := (if ¬ w_i w 3 0 3 = (Int32.ofNat (w_n w 3 0 0)) then zb_X4_node_p44 E L Q x1 x2 x3 w else ((¬ ((2 * (w_i w 3 0 3))) < 0 ∧ ((2 * (w_i w 3 0 3))).toNatClampNeg * 4 ≤ 536870912 ∧ 1 ≤ w_C w ∧ ((2 * (w_i w 3 0 3))).toNatClampNeg ≤ w_S w) ∧ ((w_o (ws_new w 5 ((2 * (w_i w 3 0 3))).toNatClampNeg) (w_z w) = some (99, (w_z w), 0) ∧ w_t (ws_new w 5 ((2 * (w_i w 3 0 3))).toNatClampNeg) (w_z w) = 5) ∧ (((¬ (0 : Int32) < 0 ∧ ¬ (0 : Int32) < 0 ∧ ¬ (w_i (ws_new w 5 ((2 * (w_i w 3 0 3))).toNatClampNeg) 3 0 3) < 0) ∧ (0 : Int32).toNatClampNeg + (w_i (ws_new w 5 ((2 * (w_i w 3 0 3))).toNatClampNeg) 3 0 3).toNatClampNeg ≤ w_n (ws_new w 5 ((2 * (w_i w 3 0 3))).toNatClampNeg) 3 0 0 ∧ (0 : Int32).toNatClampNeg + (w_i (ws_new w 5 ((2 * (w_i w 3 0 3))).toNatClampNeg) 3 0 3).toNatClampNeg ≤ w_n (ws_new w 5 ((2 * (w_i w 3 0 3))).toNatClampNeg) 99 (w_z w) 0 ∧ ∀ i, i < (w_i (ws_new w 5 ((2 * (w_i w 3 0 3))).toNatClampNeg) 3 0 3).toNatClampNeg → ∀ y, w_r (ws_new w 5 ((2 * (w_i w 3 0 3))).toNatClampNeg) 3 0 0 ((0 : Int32).toNatClampNeg + i) = some y → w_l (ws_new w 5 ((2 * (w_i w 3 0 3))).toNatClampNeg) E.2.1 14 y) ∧ ((w_o (ws_R (ws_new w 5 ((2 * (w_i w 3 0 3))).toNatClampNeg) 99 (w_z w) 0 (va_cpy (w_r (ws_new w 5 ((2 * (w_i w 3 0 3))).toNatClampNeg) 3 0 0) (w_r (ws_new w 5 ((2 * (w_i w 3 0 3))).toNatClampNeg) 99 (w_z w) 0) (0 : Int32).toNatClampNeg (0 : Int32).toNatClampNeg (w_i (ws_new w 5 ((2 * (w_i w 3 0 3))).toNatClampNeg) 3 0 3).toNatClampNeg)) (w_z w) = some (99, (w_z w), 0) ∧ w_t (ws_R (ws_new w 5 ((2 * (w_i w 3 0 3))).toNatClampNeg) 99 (w_z w) 0 (va_cpy (w_r (ws_new w 5 ((2 * (w_i w 3 0 3))).toNatClampNeg) 3 0 0) (w_r (ws_new w 5 ((2 * (w_i w 3 0 3))).toNatClampNeg) 99 (w_z w) 0) (0 : Int32).toNatClampNeg (0 : Int32).toNatClampNeg (w_i (ws_new w 5 ((2 * (w_i w 3 0 3))).toNatClampNeg) 3 0 3).toNatClampNeg)) (w_z w) = 5) ∧ zb_X4_node_p44 E L Q x1 x2 x3 (ws_put (ws_R (ws_new w 5 ((2 * (w_i w 3 0 3))).toNatClampNeg) 99 (w_z w) 0 (va_cpy (w_r (ws_new w 5 ((2 * (w_i w 3 0 3))).toNatClampNeg) 3 0 0) (w_r (ws_new w 5 ((2 * (w_i w 3 0 3))).toNatClampNeg) 99 (w_z w) 0) (0 : Int32).toNatClampNeg (0 : Int32).toNatClampNeg (w_i (ws_new w 5 ((2 * (w_i w 3 0 3))).toNatClampNeg) 3 0 3).toNatClampNeg)) 3 0 0 (w_z w)))))))
theorem zt_X4_node_p0 {E : zE} {L : Nat} {Q : kx_Rs → wS → Prop} {x1 : Option Nat} {x2 : Int32} {x3 : Int32} {w : wS} (hL : 60 ≤ L) (h : zb_X4_node_p0 E L Q x1 x2 x3 w) : kzE E L kt_M225 0 [(0, .ref (w_adr E.2.1 3 0)), (1, va_rf (x1)), (2, .int x2), (3, .int x3)] [] w Q := by
  unfold zb_X4_node_p0 at h
  refine kz_aload_n (M := kt_M225) kX4_node_c0.1 rfl ?_
  refine kz_gfi (M := kt_M225) (c := 3) (o := 0) kX4_node_c0.2.1 wf_X4_27 (.inl rfl) ?_
  refine kz_aload_n (M := kt_M225) kX4_node_c0.2.2.1 rfl ?_
  refine kz_gfa (M := kt_M225) (c := 3) (o := 0) kX4_node_c0.2.2.2.1 wf_X4_9 (.inl rfl) ?_
  refine kz_alen (M := kt_M225) (c := 3) (o := 0) (k := 0) (a := (w_d w 3 0 0)) (τ := 5) kX4_node_c0.2.2.2.2.1 ow_3_0_0 oa_3_0_0 (Nat.le_of_ble_eq_true rfl) ?_
  refine kz_icmp_ne (M := kt_M225) kX4_node_c0.2.2.2.2.2.1 (t := 44) rfl h (fun h => ?_) (fun h => ?_)
  · skip
    exact kz_weak [(0, .ref (w_adr E.2.1 3 0)), (1, va_rf (x1)), (2, .int x2), (3, .int x3)] ⟨rfl, ⟨rfl, ⟨rfl, ⟨rfl, trivial⟩⟩⟩⟩ rfl (zt_X4_node_p44 hL  h)
  · skip
    refine kz_ic (M := kt_M225) 2 kX4_node_c0.2.2.2.2.2.2.1 rfl ?_
    refine kz_aload_n (M := kt_M225) kX4_node_c0.2.2.2.2.2.2.2.1 rfl ?_
    refine kz_gfi (M := kt_M225) (c := 3) (o := 0) kX4_node_c1.1 wf_X4_27 (.inl rfl) ?_
    refine kz_imul (M := kt_M225) kX4_node_c1.2.1 ?_
    refine kz_newr (M := kt_M225) (τ := 1) (C := "MeetingHouse$Node") kX4_node_c1.2.2.1 zkl_X4_7 zft_5 ot_5 zao_5 h (fun h => ?_)
    refine kz_sta (M := kt_M225) [(0, .ref (w_adr E.2.1 3 0)), (1, va_rf (x1)), (2, .int x2), (3, .int x3)] kX4_node_c1.2.2.2.1 (Nat.le_of_ble_eq_true rfl) ⟨⟨rfl, rfl, .inl rfl⟩, ⟨⟨rfl, rfl, .inl rfl⟩, ⟨⟨rfl, rfl, .inl rfl⟩, ⟨⟨rfl, rfl, .inr rfl⟩, trivial⟩⟩⟩⟩ rfl ?_
    refine kz_aload_n (M := kt_M225) kX4_node_c1.2.2.2.2.1 rfl ?_
    refine kz_gfa (M := kt_M225) (c := 3) (o := 0) kX4_node_c1.2.2.2.2.2.1 wf_X4_9 (.inl rfl) ?_
    refine kz_ic (M := kt_M225) 0 kX4_node_c1.2.2.2.2.2.2.1 rfl ?_
    refine kz_aload (M := kt_M225) kX4_node_c1.2.2.2.2.2.2.2.1 rfl ?_
    refine kz_ic (M := kt_M225) 0 kX4_node_c2.1 rfl ?_
    refine kz_aload_n (M := kt_M225) kX4_node_c2.2.1 rfl ?_
    refine kz_gfi (M := kt_M225) (c := 3) (o := 0) kX4_node_c2.2.2.1 wf_X4_27 (.inl rfl) ?_
    obtain ⟨h0, h⟩ := h
    refine kz_cpyr (M := kt_M225) (τ := 1) (ci := 14) (c0 := 3) (o0 := 0) (k0 := 0) (c := 99) (o := (w_z w)) (k := 0) (a0 := (w_d (ws_new w 5 ((2 * (w_i w 3 0 3))).toNatClampNeg) 3 0 0)) (a := (w_z w)) kX4_node_c2.2.2.2.1 (zac_X4_37) rfl rfl rfl rfl rfl ow_3_0_0 oa_3_0_0 (.inl ⟨rfl, rfl, h0.1, h0.2⟩) rfl (Nat.le_trans (by simp [kx_cat, w_cat, zac_w, z_ci, z_cr, z_cl, z_cn]) hL) h (fun h => ?_)
    refine kz_aload_n (M := kt_M225) kX4_node_c2.2.2.2.2.1 rfl ?_
    refine kz_aload (M := kt_M225) kX4_node_c2.2.2.2.2.2.1 rfl ?_
    refine kz_pfa (M := kt_M225) (c := 3) (o := 0) (τ := 5) kX4_node_c2.2.2.2.2.2.2.1 wq_X4_9 (.inl rfl) rfl h (fun h => ?_)
    exact kz_weak [(0, .ref (w_adr E.2.1 3 0)), (1, va_rf (x1)), (2, .int x2), (3, .int x3)] ⟨rfl, ⟨rfl, ⟨rfl, ⟨rfl, trivial⟩⟩⟩⟩ rfl (zt_X4_node_p44 hL  h)
def zb_X4_symbol_p72 (E : zE) (L : Nat) (Q : kx_Rs → wS → Prop) (x1 : Option Nat) (x2 : Int32) (x3 : Int32) (w : wS) : Prop := (kx_inb (w_i w 3 0 4) (w_n w 3 0 1) = true ∧ (∃ p1, w_r w 3 0 1 (w_i w 3 0 4).toNatClampNeg = some p1 ∧ w_l (ws_i w 3 0 4 ((w_i w 3 0 4) + 1)) E.2.1 15 p1 ∧ zw E (L - 23) kt_M229 [.ref p1, va_rf (x1), .int x2, .int x3] (ws_i w 3 0 4 ((w_i w 3 0 4) + 1)) (wkr (fun v3 w2 => wle (ws_i w 3 0 4 ((w_i w 3 0 4) + 1)) w2 → Q (.inl (some (va_rf (v3)))) w2) (fun e w => Q (.inr e) w))))
theorem zt_X4_symbol_p72 {E : zE} {L : Nat} {Q : kx_Rs → wS → Prop} {x1 : Option Nat} {x2 : Int32} {x3 : Int32} {w : wS} (hL : 60 ≤ L) (h : zb_X4_symbol_p72 E L Q x1 x2 x3 w) : kzE E L kt_M226 72 [(0, .ref (w_adr E.2.1 3 0)), (1, va_rf (x1)), (2, .int x2), (3, .int x3)] [] w Q := by
  unfold zb_X4_symbol_p72 at h
  refine kz_aload_n (M := kt_M226) kX4_symbol_c4.2.2.2.2.2.1 rfl ?_
  refine kz_gfa (M := kt_M226) (c := 3) (o := 0) kX4_symbol_c4.2.2.2.2.2.2.1 wf_X4_17 (.inl rfl) ?_
  refine kz_aload_n (M := kt_M226) kX4_symbol_c4.2.2.2.2.2.2.2.1 rfl ?_
  refine kz_dup (M := kt_M226) kX4_symbol_c5.1 rfl ?_
  refine kz_gfi (M := kt_M226) (c := 3) (o := 0) kX4_symbol_c5.2.1 wf_X4_31 (.inl rfl) ?_
  refine kz_dup_x1 (M := kt_M226) kX4_symbol_c5.2.2.1 ⟨rfl, rfl⟩ ?_
  refine kz_ic (M := kt_M226) 1 kX4_symbol_c5.2.2.2.1 rfl ?_
  refine kz_iadd (M := kt_M226) kX4_symbol_c5.2.2.2.2.1 ?_
  refine kz_pfi (M := kt_M226) (c := 3) (o := 0) kX4_symbol_c5.2.2.2.2.2.1 wq_X4_31 (.inl rfl) ?_
  refine kz_aaldR (M := kt_M226) (τ := 2) (n := w_n w 3 0 1) (c := 3) (o := 0) (k := 1) (a := (w_d w 3 0 1)) (w_r w 3 0 1 (w_i w 3 0 4).toNatClampNeg) kX4_symbol_c5.2.2.2.2.2.2.1 ow_3_0_1 rfl ot_6 rfl rd_n_i rd_r_i h (fun h => ?_)
  refine kz_aload_nv (M := kt_M226) (x := x1) kX4_symbol_c5.2.2.2.2.2.2.2.1 rfl ?_
  refine kz_iload_n (M := kt_M226) kX4_symbol_c6.1 rfl ?_
  refine kz_iload_n (M := kt_M226) kX4_symbol_c6.2.1 rfl ?_
  obtain ⟨p1, hxp1, hlp1, h⟩ := h
  refine kz_nz3 (x := w_r w 3 0 1 (w_i w 3 0 4).toNatClampNeg) hxp1 ?_
  refine kz_cvr (M := kt_M226) (c := 15) (o := p1) (As := [va_rf (x1), .int x2, .int x3]) (rest := []) kX4_symbol_c6.2.2.1 wl_X4_49 wMv_229 rfl (.inr (by exact hlp1)) rfl (Nat.le_trans (Nat.le_of_ble_eq_true rfl) hL) (by simp [lg_sl, w_cat, z_ci, z_cr, z_cl, z_cn, kt_M229]) (Nat.le_of_ble_eq_true rfl) h (fun v3 w2 hle h => ?_) (fun _ _ _ h => kzx_no rfl h)
  have h := h hle
  have hlp1 := w_l_le hlp1 hle
  exact kz_areto (x := v3) (M := kt_M226) kX4_symbol_c6.2.2.2.1 rfl h
def zb_X4_symbol_p44 (E : zE) (L : Nat) (Q : kx_Rs → wS → Prop) (x1 : Option Nat) (x2 : Int32) (x3 : Int32) (w : wS) : Prop := (kx_inb (w_i w 3 0 4) (w_n w 3 0 1) = true ∧ (if ¬ (w_r w 3 0 1 (w_i w 3 0 4).toNatClampNeg) = none then zb_X4_symbol_p72 E L Q x1 x2 x3 w else ((1 ≤ w_C w ∧ 31 ≤ w_S w) ∧ zw E (L - 20) kt_M228 [.ref (w_z w)] (ws_obj w 15 31) (wk0 (fun w2 => wle (ws_obj w 15 31) w2 → (w_d w2 3 0 1 = w_d w 3 0 1 ∧ kx_inb (w_i w 3 0 4) (w_n w2 3 0 1) = true ∧ zb_X4_symbol_p72 E L Q x1 x2 x3 (ws_r w2 3 0 1 (w_i w 3 0 4).toNatClampNeg (some (w_z w))))) (fun e w => Q (.inr e) w)))))
theorem zt_X4_symbol_p44 {E : zE} {L : Nat} {Q : kx_Rs → wS → Prop} {x1 : Option Nat} {x2 : Int32} {x3 : Int32} {w : wS} (hL : 60 ≤ L) (h : zb_X4_symbol_p44 E L Q x1 x2 x3 w) : kzE E L kt_M226 44 [(0, .ref (w_adr E.2.1 3 0)), (1, va_rf (x1)), (2, .int x2), (3, .int x3)] [] w Q := by
  unfold zb_X4_symbol_p44 at h
  refine kz_aload_n (M := kt_M226) kX4_symbol_c2.2.2.2.2.2.2.2.1 rfl ?_
  refine kz_gfa (M := kt_M226) (c := 3) (o := 0) kX4_symbol_c3.1 wf_X4_17 (.inl rfl) ?_
  refine kz_aload_n (M := kt_M226) kX4_symbol_c3.2.1 rfl ?_
  refine kz_gfi (M := kt_M226) (c := 3) (o := 0) kX4_symbol_c3.2.2.1 wf_X4_31 (.inl rfl) ?_
  refine kz_aald (M := kt_M226) (τ := 2) (c := 3) (o := 0) (k := 1) (a := (w_d w 3 0 1)) kX4_symbol_c3.2.2.2.1 ow_3_0_1 oa_3_0_1 ot_6 rfl h (fun h => ?_)
  refine kz_ifnonnull (M := kt_M226) (x := w_r w 3 0 1 (w_i w 3 0 4).toNatClampNeg) kX4_symbol_c3.2.2.2.2.1 (t := 72) rfl h (fun h => ?_) (fun h => ?_)
  · skip
    exact kz_weak [(0, .ref (w_adr E.2.1 3 0)), (1, va_rf (x1)), (2, .int x2), (3, .int x3)] ⟨rfl, ⟨rfl, ⟨rfl, ⟨rfl, trivial⟩⟩⟩⟩ rfl (zt_X4_symbol_p72 hL  h)
  · skip
    refine kz_aload_n (M := kt_M226) kX4_symbol_c3.2.2.2.2.2.1 rfl ?_
    refine kz_gfa (M := kt_M226) (c := 3) (o := 0) kX4_symbol_c3.2.2.2.2.2.2.1 wf_X4_17 (.inl rfl) ?_
    refine kz_aload_n (M := kt_M226) kX4_symbol_c3.2.2.2.2.2.2.2.1 rfl ?_
    refine kz_gfi (M := kt_M226) (c := 3) (o := 0) kX4_symbol_c4.1 wf_X4_31 (.inl rfl) ?_
    refine kz_newo (M := kt_M226) (c := 15) (n := 31) kX4_symbol_c4.2.1 zn_X4_15 h (fun h => ?_)
    have hlz1 : w_l (ws_obj w 15 31) E.2.1 15 (w_z w) := w_l_obj rfl
    refine kz_dup (M := kt_M226) kX4_symbol_c4.2.2.1 rfl ?_
    refine kz_ci0 (M := kt_M226) (b := (w_z w)) (As := []) (rest := [.ref (w_z w), .int (w_i w 3 0 4), .ref (w_d w 3 0 1)]) kX4_symbol_c4.2.2.2.1 wli_X4_48 rfl (Nat.le_trans (Nat.le_of_ble_eq_true rfl) hL) (Nat.le_of_ble_eq_true rfl) (Nat.le_of_ble_eq_true rfl) h (fun w2 hle h => ?_) (fun _ _ _ h => kzx_no rfl h)
    have h := h hle
    have hlz1 := w_l_le hlz1 hle
    obtain ⟨h0, h⟩ := h
    refine kz_aasto (M := kt_M226) (C1 := "") (τ := 2) (ci := 15) (c := 3) (o := 0) (k := 1) (a := (w_d w 3 0 1)) (v := (w_z w)) kX4_symbol_c4.2.2.2.2.1 ow_3_0_1 h0 rfl rfl rfl (by exact hlz1) h (fun h => ?_)
    exact kz_weak [(0, .ref (w_adr E.2.1 3 0)), (1, va_rf (x1)), (2, .int x2), (3, .int x3)] ⟨rfl, ⟨rfl, ⟨rfl, ⟨rfl, trivial⟩⟩⟩⟩ rfl (zt_X4_symbol_p72 hL  h)
def zb_X4_symbol_p0 (E : zE) (L : Nat) (Q : kx_Rs → wS → Prop) (x1 : Option Nat) (x2 : Int32) (x3 : Int32) (w : wS) : Prop := (if ¬ w_i w 3 0 4 = (Int32.ofNat (w_n w 3 0 1)) then zb_X4_symbol_p44 E L Q x1 x2 x3 w else ((¬ ((2 * (w_i w 3 0 4))) < 0 ∧ ((2 * (w_i w 3 0 4))).toNatClampNeg * 4 ≤ 536870912 ∧ 1 ≤ w_C w ∧ ((2 * (w_i w 3 0 4))).toNatClampNeg ≤ w_S w) ∧ ((w_o (ws_new w 6 ((2 * (w_i w 3 0 4))).toNatClampNeg) (w_z w) = some (99, (w_z w), 0) ∧ w_t (ws_new w 6 ((2 * (w_i w 3 0 4))).toNatClampNeg) (w_z w) = 6) ∧ (((¬ (0 : Int32) < 0 ∧ ¬ (0 : Int32) < 0 ∧ ¬ (w_i (ws_new w 6 ((2 * (w_i w 3 0 4))).toNatClampNeg) 3 0 4) < 0) ∧ (0 : Int32).toNatClampNeg + (w_i (ws_new w 6 ((2 * (w_i w 3 0 4))).toNatClampNeg) 3 0 4).toNatClampNeg ≤ w_n (ws_new w 6 ((2 * (w_i w 3 0 4))).toNatClampNeg) 3 0 1 ∧ (0 : Int32).toNatClampNeg + (w_i (ws_new w 6 ((2 * (w_i w 3 0 4))).toNatClampNeg) 3 0 4).toNatClampNeg ≤ w_n (ws_new w 6 ((2 * (w_i w 3 0 4))).toNatClampNeg) 99 (w_z w) 0 ∧ ∀ i, i < (w_i (ws_new w 6 ((2 * (w_i w 3 0 4))).toNatClampNeg) 3 0 4).toNatClampNeg → ∀ y, w_r (ws_new w 6 ((2 * (w_i w 3 0 4))).toNatClampNeg) 3 0 1 ((0 : Int32).toNatClampNeg + i) = some y → w_l (ws_new w 6 ((2 * (w_i w 3 0 4))).toNatClampNeg) E.2.1 15 y) ∧ ((w_o (ws_R (ws_new w 6 ((2 * (w_i w 3 0 4))).toNatClampNeg) 99 (w_z w) 0 (va_cpy (w_r (ws_new w 6 ((2 * (w_i w 3 0 4))).toNatClampNeg) 3 0 1) (w_r (ws_new w 6 ((2 * (w_i w 3 0 4))).toNatClampNeg) 99 (w_z w) 0) (0 : Int32).toNatClampNeg (0 : Int32).toNatClampNeg (w_i (ws_new w 6 ((2 * (w_i w 3 0 4))).toNatClampNeg) 3 0 4).toNatClampNeg)) (w_z w) = some (99, (w_z w), 0) ∧ w_t (ws_R (ws_new w 6 ((2 * (w_i w 3 0 4))).toNatClampNeg) 99 (w_z w) 0 (va_cpy (w_r (ws_new w 6 ((2 * (w_i w 3 0 4))).toNatClampNeg) 3 0 1) (w_r (ws_new w 6 ((2 * (w_i w 3 0 4))).toNatClampNeg) 99 (w_z w) 0) (0 : Int32).toNatClampNeg (0 : Int32).toNatClampNeg (w_i (ws_new w 6 ((2 * (w_i w 3 0 4))).toNatClampNeg) 3 0 4).toNatClampNeg)) (w_z w) = 6) ∧ zb_X4_symbol_p44 E L Q x1 x2 x3 (ws_put (ws_R (ws_new w 6 ((2 * (w_i w 3 0 4))).toNatClampNeg) 99 (w_z w) 0 (va_cpy (w_r (ws_new w 6 ((2 * (w_i w 3 0 4))).toNatClampNeg) 3 0 1) (w_r (ws_new w 6 ((2 * (w_i w 3 0 4))).toNatClampNeg) 99 (w_z w) 0) (0 : Int32).toNatClampNeg (0 : Int32).toNatClampNeg (w_i (ws_new w 6 ((2 * (w_i w 3 0 4))).toNatClampNeg) 3 0 4).toNatClampNeg)) 3 0 1 (w_z w)))))))
theorem zt_X4_symbol_p0 {E : zE} {L : Nat} {Q : kx_Rs → wS → Prop} {x1 : Option Nat} {x2 : Int32} {x3 : Int32} {w : wS} (hL : 60 ≤ L) (h : zb_X4_symbol_p0 E L Q x1 x2 x3 w) : kzE E L kt_M226 0 [(0, .ref (w_adr E.2.1 3 0)), (1, va_rf (x1)), (2, .int x2), (3, .int x3)] [] w Q := by
  unfold zb_X4_symbol_p0 at h
  refine kz_aload_n (M := kt_M226) kX4_symbol_c0.1 rfl ?_
  refine kz_gfi (M := kt_M226) (c := 3) (o := 0) kX4_symbol_c0.2.1 wf_X4_31 (.inl rfl) ?_
  refine kz_aload_n (M := kt_M226) kX4_symbol_c0.2.2.1 rfl ?_
  refine kz_gfa (M := kt_M226) (c := 3) (o := 0) kX4_symbol_c0.2.2.2.1 wf_X4_17 (.inl rfl) ?_
  refine kz_alen (M := kt_M226) (c := 3) (o := 0) (k := 1) (a := (w_d w 3 0 1)) (τ := 6) kX4_symbol_c0.2.2.2.2.1 ow_3_0_1 oa_3_0_1 (Nat.le_of_ble_eq_true rfl) ?_
  refine kz_icmp_ne (M := kt_M226) kX4_symbol_c0.2.2.2.2.2.1 (t := 44) rfl h (fun h => ?_) (fun h => ?_)
  · skip
    exact kz_weak [(0, .ref (w_adr E.2.1 3 0)), (1, va_rf (x1)), (2, .int x2), (3, .int x3)] ⟨rfl, ⟨rfl, ⟨rfl, ⟨rfl, trivial⟩⟩⟩⟩ rfl (zt_X4_symbol_p44 hL  h)
  · skip
    refine kz_ic (M := kt_M226) 2 kX4_symbol_c0.2.2.2.2.2.2.1 rfl ?_
    refine kz_aload_n (M := kt_M226) kX4_symbol_c0.2.2.2.2.2.2.2.1 rfl ?_
    refine kz_gfi (M := kt_M226) (c := 3) (o := 0) kX4_symbol_c1.1 wf_X4_31 (.inl rfl) ?_
    refine kz_imul (M := kt_M226) kX4_symbol_c1.2.1 ?_
    refine kz_newr (M := kt_M226) (τ := 2) (C := "MeetingHouse$Symbol") kX4_symbol_c1.2.2.1 zkl_X4_15 zft_6 ot_6 zao_6 h (fun h => ?_)
    refine kz_sta (M := kt_M226) [(0, .ref (w_adr E.2.1 3 0)), (1, va_rf (x1)), (2, .int x2), (3, .int x3)] kX4_symbol_c1.2.2.2.1 (Nat.le_of_ble_eq_true rfl) ⟨⟨rfl, rfl, .inl rfl⟩, ⟨⟨rfl, rfl, .inl rfl⟩, ⟨⟨rfl, rfl, .inl rfl⟩, ⟨⟨rfl, rfl, .inr rfl⟩, trivial⟩⟩⟩⟩ rfl ?_
    refine kz_aload_n (M := kt_M226) kX4_symbol_c1.2.2.2.2.1 rfl ?_
    refine kz_gfa (M := kt_M226) (c := 3) (o := 0) kX4_symbol_c1.2.2.2.2.2.1 wf_X4_17 (.inl rfl) ?_
    refine kz_ic (M := kt_M226) 0 kX4_symbol_c1.2.2.2.2.2.2.1 rfl ?_
    refine kz_aload (M := kt_M226) kX4_symbol_c1.2.2.2.2.2.2.2.1 rfl ?_
    refine kz_ic (M := kt_M226) 0 kX4_symbol_c2.1 rfl ?_
    refine kz_aload_n (M := kt_M226) kX4_symbol_c2.2.1 rfl ?_
    refine kz_gfi (M := kt_M226) (c := 3) (o := 0) kX4_symbol_c2.2.2.1 wf_X4_31 (.inl rfl) ?_
    obtain ⟨h0, h⟩ := h
    refine kz_cpyr (M := kt_M226) (τ := 2) (ci := 15) (c0 := 3) (o0 := 0) (k0 := 1) (c := 99) (o := (w_z w)) (k := 0) (a0 := (w_d (ws_new w 6 ((2 * (w_i w 3 0 4))).toNatClampNeg) 3 0 1)) (a := (w_z w)) kX4_symbol_c2.2.2.2.1 (zac_X4_37) rfl rfl rfl rfl rfl ow_3_0_1 oa_3_0_1 (.inl ⟨rfl, rfl, h0.1, h0.2⟩) rfl (Nat.le_trans (by simp [kx_cat, w_cat, zac_w, z_ci, z_cr, z_cl, z_cn]) hL) h (fun h => ?_)
    refine kz_aload_n (M := kt_M226) kX4_symbol_c2.2.2.2.2.1 rfl ?_
    refine kz_aload (M := kt_M226) kX4_symbol_c2.2.2.2.2.2.1 rfl ?_
    refine kz_pfa (M := kt_M226) (c := 3) (o := 0) (τ := 6) kX4_symbol_c2.2.2.2.2.2.2.1 wq_X4_17 (.inl rfl) rfl h (fun h => ?_)
    exact kz_weak [(0, .ref (w_adr E.2.1 3 0)), (1, va_rf (x1)), (2, .int x2), (3, .int x3)] ⟨rfl, ⟨rfl, ⟨rfl, ⟨rfl, trivial⟩⟩⟩⟩ rfl (zt_X4_symbol_p44 hL  h)
def zb_X4_unit_p69 (E : zE) (L : Nat) (Q : kx_Rs → wS → Prop) (x1 : Option Nat) (w : wS) : Prop := (kx_inb (w_i w 3 0 5) (w_n w 3 0 2) = true ∧ (∃ p1, w_r w 3 0 2 (w_i w 3 0 5).toNatClampNeg = some p1 ∧ w_l w E.2.1 16 p1 ∧ zw E (L - 22) kt_M292 [.ref p1, va_rf (x1), .int (w_i w 3 0 5)] w (wkr (fun v3 w2 => wle w w2 → Q (.inl (some (va_rf (v3)))) (ws_i w2 3 0 5 ((w_i w2 3 0 5) + 1))) (fun e w => Q (.inr e) w))))
theorem zt_X4_unit_p69 {E : zE} {L : Nat} {Q : kx_Rs → wS → Prop} {x1 : Option Nat} {w : wS} (hL : 60 ≤ L) (h : zb_X4_unit_p69 E L Q x1 w) : kzE E L kt_M227 69 [(0, .ref (w_adr E.2.1 3 0)), (1, va_rf (x1))] [] w Q := by
  unfold zb_X4_unit_p69 at h
  refine kz_aload_n (M := kt_M227) kX4_unit_c4.2.2.2.2.2.1 rfl ?_
  refine kz_gfa (M := kt_M227) (c := 3) (o := 0) kX4_unit_c4.2.2.2.2.2.2.1 wf_X4_23 (.inl rfl) ?_
  refine kz_aload_n (M := kt_M227) kX4_unit_c4.2.2.2.2.2.2.2.1 rfl ?_
  refine kz_gfi (M := kt_M227) (c := 3) (o := 0) kX4_unit_c5.1 wf_X4_34 (.inl rfl) ?_
  refine kz_aald (M := kt_M227) (τ := 3) (c := 3) (o := 0) (k := 2) (a := (w_d w 3 0 2)) kX4_unit_c5.2.1 ow_3_0_2 oa_3_0_2 ot_7 rfl h (fun h => ?_)
  refine kz_aload_nv (M := kt_M227) (x := x1) kX4_unit_c5.2.2.1 rfl ?_
  refine kz_aload_n (M := kt_M227) kX4_unit_c5.2.2.2.1 rfl ?_
  refine kz_gfi (M := kt_M227) (c := 3) (o := 0) kX4_unit_c5.2.2.2.2.1 wf_X4_34 (.inl rfl) ?_
  obtain ⟨p1, hxp1, hlp1, h⟩ := h
  refine kz_nz2 (x := w_r w 3 0 2 (w_i w 3 0 5).toNatClampNeg) hxp1 ?_
  refine kz_cvr (M := kt_M227) (c := 16) (o := p1) (As := [va_rf (x1), .int (w_i w 3 0 5)]) (rest := []) kX4_unit_c5.2.2.2.2.2.1 wl_X4_53 wMv_292 rfl (.inr (by exact hlp1)) rfl (Nat.le_trans (Nat.le_of_ble_eq_true rfl) hL) (by simp [lg_sl, w_cat, z_ci, z_cr, z_cl, z_cn, kt_M292]) (Nat.le_of_ble_eq_true rfl) h (fun v3 w2 hle h => ?_) (fun _ _ _ h => kzx_no rfl h)
  have h := h hle
  have hlp1 := w_l_le hlp1 hle
  refine kz_stv_n (M := kt_M227) (x := v3) [(0, .ref (w_adr E.2.1 3 0))] kX4_unit_c5.2.2.2.2.2.2.1 (Nat.le_of_ble_eq_true rfl) ⟨⟨rfl, rfl, .inl rfl⟩, trivial⟩ rfl ?_
  refine kz_aload_n (M := kt_M227) kX4_unit_c5.2.2.2.2.2.2.2.1 rfl ?_
  refine kz_dup (M := kt_M227) kX4_unit_c6.1 rfl ?_
  refine kz_gfi (M := kt_M227) (c := 3) (o := 0) kX4_unit_c6.2.1 wf_X4_34 (.inl rfl) ?_
  refine kz_ic (M := kt_M227) 1 kX4_unit_c6.2.2.1 rfl ?_
  refine kz_iadd (M := kt_M227) kX4_unit_c6.2.2.2.1 ?_
  refine kz_pfi (M := kt_M227) (c := 3) (o := 0) kX4_unit_c6.2.2.2.2.1 wq_X4_34 (.inl rfl) ?_
  refine kz_aload_nv (M := kt_M227) (x := v3) kX4_unit_c6.2.2.2.2.2.1 rfl ?_
  exact kz_areto (x := v3) (M := kt_M227) kX4_unit_c6.2.2.2.2.2.2.1 rfl h
def zb_X4_unit_p41 (E : zE) (L : Nat) (Q : kx_Rs → wS → Prop) (x1 : Option Nat) (w : wS) : Prop := (kx_inb (w_i w 3 0 5) (w_n w 3 0 2) = true ∧ (if ¬ (w_r w 3 0 2 (w_i w 3 0 5).toNatClampNeg) = none then zb_X4_unit_p69 E L Q x1 w else ((1 ≤ w_C w ∧ 7 ≤ w_S w) ∧ zw E (L - 20) kt_M291 [.ref (w_z w)] (ws_obj w 16 7) (wk0 (fun w2 => wle (ws_obj w 16 7) w2 → (w_d w2 3 0 2 = w_d w 3 0 2 ∧ kx_inb (w_i w 3 0 5) (w_n w2 3 0 2) = true ∧ zb_X4_unit_p69 E L Q x1 (ws_r w2 3 0 2 (w_i w 3 0 5).toNatClampNeg (some (w_z w))))) (fun e w => Q (.inr e) w)))))
theorem zt_X4_unit_p41 {E : zE} {L : Nat} {Q : kx_Rs → wS → Prop} {x1 : Option Nat} {w : wS} (hL : 60 ≤ L) (h : zb_X4_unit_p41 E L Q x1 w) : kzE E L kt_M227 41 [(0, .ref (w_adr E.2.1 3 0)), (1, va_rf (x1))] [] w Q := by
  unfold zb_X4_unit_p41 at h
  refine kz_aload_n (M := kt_M227) kX4_unit_c2.2.2.2.2.2.2.2.1 rfl ?_
  refine kz_gfa (M := kt_M227) (c := 3) (o := 0) kX4_unit_c3.1 wf_X4_23 (.inl rfl) ?_
  refine kz_aload_n (M := kt_M227) kX4_unit_c3.2.1 rfl ?_
  refine kz_gfi (M := kt_M227) (c := 3) (o := 0) kX4_unit_c3.2.2.1 wf_X4_34 (.inl rfl) ?_
  refine kz_aald (M := kt_M227) (τ := 3) (c := 3) (o := 0) (k := 2) (a := (w_d w 3 0 2)) kX4_unit_c3.2.2.2.1 ow_3_0_2 oa_3_0_2 ot_7 rfl h (fun h => ?_)
  refine kz_ifnonnull (M := kt_M227) (x := w_r w 3 0 2 (w_i w 3 0 5).toNatClampNeg) kX4_unit_c3.2.2.2.2.1 (t := 69) rfl h (fun h => ?_) (fun h => ?_)
  · skip
    exact kz_weak [(0, .ref (w_adr E.2.1 3 0)), (1, va_rf (x1))] ⟨rfl, ⟨rfl, trivial⟩⟩ rfl (zt_X4_unit_p69 hL  h)
  · skip
    refine kz_aload_n (M := kt_M227) kX4_unit_c3.2.2.2.2.2.1 rfl ?_
    refine kz_gfa (M := kt_M227) (c := 3) (o := 0) kX4_unit_c3.2.2.2.2.2.2.1 wf_X4_23 (.inl rfl) ?_
    refine kz_aload_n (M := kt_M227) kX4_unit_c3.2.2.2.2.2.2.2.1 rfl ?_
    refine kz_gfi (M := kt_M227) (c := 3) (o := 0) kX4_unit_c4.1 wf_X4_34 (.inl rfl) ?_
    refine kz_newo (M := kt_M227) (c := 16) (n := 7) kX4_unit_c4.2.1 zn_X4_21 h (fun h => ?_)
    have hlz1 : w_l (ws_obj w 16 7) E.2.1 16 (w_z w) := w_l_obj rfl
    refine kz_dup (M := kt_M227) kX4_unit_c4.2.2.1 rfl ?_
    refine kz_ci0 (M := kt_M227) (b := (w_z w)) (As := []) (rest := [.ref (w_z w), .int (w_i w 3 0 5), .ref (w_d w 3 0 2)]) kX4_unit_c4.2.2.2.1 wli_X4_52 rfl (Nat.le_trans (Nat.le_of_ble_eq_true rfl) hL) (Nat.le_of_ble_eq_true rfl) (Nat.le_of_ble_eq_true rfl) h (fun w2 hle h => ?_) (fun _ _ _ h => kzx_no rfl h)
    have h := h hle
    have hlz1 := w_l_le hlz1 hle
    obtain ⟨h0, h⟩ := h
    refine kz_aasto (M := kt_M227) (C1 := "") (τ := 3) (ci := 16) (c := 3) (o := 0) (k := 2) (a := (w_d w 3 0 2)) (v := (w_z w)) kX4_unit_c4.2.2.2.2.1 ow_3_0_2 h0 rfl rfl rfl (by exact hlz1) h (fun h => ?_)
    exact kz_weak [(0, .ref (w_adr E.2.1 3 0)), (1, va_rf (x1))] ⟨rfl, ⟨rfl, trivial⟩⟩ rfl (zt_X4_unit_p69 hL  h)
def zb_X4_unit_p0 (E : zE) (L : Nat) (Q : kx_Rs → wS → Prop) (x1 : Option Nat) (w : wS) : Prop := (if ¬ w_i w 3 0 5 = (Int32.ofNat (w_n w 3 0 2)) then zb_X4_unit_p41 E L Q x1 w else ((¬ ((2 * (w_i w 3 0 5))) < 0 ∧ ((2 * (w_i w 3 0 5))).toNatClampNeg * 4 ≤ 536870912 ∧ 1 ≤ w_C w ∧ ((2 * (w_i w 3 0 5))).toNatClampNeg ≤ w_S w) ∧ ((w_o (ws_new w 7 ((2 * (w_i w 3 0 5))).toNatClampNeg) (w_z w) = some (99, (w_z w), 0) ∧ w_t (ws_new w 7 ((2 * (w_i w 3 0 5))).toNatClampNeg) (w_z w) = 7) ∧ (((¬ (0 : Int32) < 0 ∧ ¬ (0 : Int32) < 0 ∧ ¬ (w_i (ws_new w 7 ((2 * (w_i w 3 0 5))).toNatClampNeg) 3 0 5) < 0) ∧ (0 : Int32).toNatClampNeg + (w_i (ws_new w 7 ((2 * (w_i w 3 0 5))).toNatClampNeg) 3 0 5).toNatClampNeg ≤ w_n (ws_new w 7 ((2 * (w_i w 3 0 5))).toNatClampNeg) 3 0 2 ∧ (0 : Int32).toNatClampNeg + (w_i (ws_new w 7 ((2 * (w_i w 3 0 5))).toNatClampNeg) 3 0 5).toNatClampNeg ≤ w_n (ws_new w 7 ((2 * (w_i w 3 0 5))).toNatClampNeg) 99 (w_z w) 0 ∧ ∀ i, i < (w_i (ws_new w 7 ((2 * (w_i w 3 0 5))).toNatClampNeg) 3 0 5).toNatClampNeg → ∀ y, w_r (ws_new w 7 ((2 * (w_i w 3 0 5))).toNatClampNeg) 3 0 2 ((0 : Int32).toNatClampNeg + i) = some y → w_l (ws_new w 7 ((2 * (w_i w 3 0 5))).toNatClampNeg) E.2.1 16 y) ∧ ((w_o (ws_R (ws_new w 7 ((2 * (w_i w 3 0 5))).toNatClampNeg) 99 (w_z w) 0 (va_cpy (w_r (ws_new w 7 ((2 * (w_i w 3 0 5))).toNatClampNeg) 3 0 2) (w_r (ws_new w 7 ((2 * (w_i w 3 0 5))).toNatClampNeg) 99 (w_z w) 0) (0 : Int32).toNatClampNeg (0 : Int32).toNatClampNeg (w_i (ws_new w 7 ((2 * (w_i w 3 0 5))).toNatClampNeg) 3 0 5).toNatClampNeg)) (w_z w) = some (99, (w_z w), 0) ∧ w_t (ws_R (ws_new w 7 ((2 * (w_i w 3 0 5))).toNatClampNeg) 99 (w_z w) 0 (va_cpy (w_r (ws_new w 7 ((2 * (w_i w 3 0 5))).toNatClampNeg) 3 0 2) (w_r (ws_new w 7 ((2 * (w_i w 3 0 5))).toNatClampNeg) 99 (w_z w) 0) (0 : Int32).toNatClampNeg (0 : Int32).toNatClampNeg (w_i (ws_new w 7 ((2 * (w_i w 3 0 5))).toNatClampNeg) 3 0 5).toNatClampNeg)) (w_z w) = 7) ∧ zb_X4_unit_p41 E L Q x1 (ws_put (ws_R (ws_new w 7 ((2 * (w_i w 3 0 5))).toNatClampNeg) 99 (w_z w) 0 (va_cpy (w_r (ws_new w 7 ((2 * (w_i w 3 0 5))).toNatClampNeg) 3 0 2) (w_r (ws_new w 7 ((2 * (w_i w 3 0 5))).toNatClampNeg) 99 (w_z w) 0) (0 : Int32).toNatClampNeg (0 : Int32).toNatClampNeg (w_i (ws_new w 7 ((2 * (w_i w 3 0 5))).toNatClampNeg) 3 0 5).toNatClampNeg)) 3 0 2 (w_z w)))))))
theorem zt_X4_unit_p0 {E : zE} {L : Nat} {Q : kx_Rs → wS → Prop} {x1 : Option Nat} {w : wS} (hL : 60 ≤ L) (h : zb_X4_unit_p0 E L Q x1 w) : kzE E L kt_M227 0 [(0, .ref (w_adr E.2.1 3 0)), (1, va_rf (x1))] [] w Q := by
  unfold zb_X4_unit_p0 at h
  refine kz_aload_n (M := kt_M227) kX4_unit_c0.1 rfl ?_
  refine kz_gfi (M := kt_M227) (c := 3) (o := 0) kX4_unit_c0.2.1 wf_X4_34 (.inl rfl) ?_
  refine kz_aload_n (M := kt_M227) kX4_unit_c0.2.2.1 rfl ?_
  refine kz_gfa (M := kt_M227) (c := 3) (o := 0) kX4_unit_c0.2.2.2.1 wf_X4_23 (.inl rfl) ?_
  refine kz_alen (M := kt_M227) (c := 3) (o := 0) (k := 2) (a := (w_d w 3 0 2)) (τ := 7) kX4_unit_c0.2.2.2.2.1 ow_3_0_2 oa_3_0_2 (Nat.le_of_ble_eq_true rfl) ?_
  refine kz_icmp_ne (M := kt_M227) kX4_unit_c0.2.2.2.2.2.1 (t := 41) rfl h (fun h => ?_) (fun h => ?_)
  · skip
    exact kz_weak [(0, .ref (w_adr E.2.1 3 0)), (1, va_rf (x1))] ⟨rfl, ⟨rfl, trivial⟩⟩ rfl (zt_X4_unit_p41 hL  h)
  · skip
    refine kz_ic (M := kt_M227) 2 kX4_unit_c0.2.2.2.2.2.2.1 rfl ?_
    refine kz_aload_n (M := kt_M227) kX4_unit_c0.2.2.2.2.2.2.2.1 rfl ?_
    refine kz_gfi (M := kt_M227) (c := 3) (o := 0) kX4_unit_c1.1 wf_X4_34 (.inl rfl) ?_
    refine kz_imul (M := kt_M227) kX4_unit_c1.2.1 ?_
    refine kz_newr (M := kt_M227) (τ := 3) (C := "MeetingHouse$Unit") kX4_unit_c1.2.2.1 zkl_X4_21 zft_7 ot_7 zao_7 h (fun h => ?_)
    refine kz_sta_n (M := kt_M227) [(0, .ref (w_adr E.2.1 3 0)), (1, va_rf (x1))] kX4_unit_c1.2.2.2.1 (Nat.le_of_ble_eq_true rfl) ⟨⟨rfl, rfl, .inl rfl⟩, ⟨⟨rfl, rfl, .inr (w_cat _)⟩, trivial⟩⟩ rfl ?_
    refine kz_aload_n (M := kt_M227) kX4_unit_c1.2.2.2.2.1 rfl ?_
    refine kz_gfa (M := kt_M227) (c := 3) (o := 0) kX4_unit_c1.2.2.2.2.2.1 wf_X4_23 (.inl rfl) ?_
    refine kz_ic (M := kt_M227) 0 kX4_unit_c1.2.2.2.2.2.2.1 rfl ?_
    refine kz_aload_n (M := kt_M227) kX4_unit_c1.2.2.2.2.2.2.2.1 rfl ?_
    refine kz_ic (M := kt_M227) 0 kX4_unit_c2.1 rfl ?_
    refine kz_aload_n (M := kt_M227) kX4_unit_c2.2.1 rfl ?_
    refine kz_gfi (M := kt_M227) (c := 3) (o := 0) kX4_unit_c2.2.2.1 wf_X4_34 (.inl rfl) ?_
    obtain ⟨h0, h⟩ := h
    refine kz_cpyr (M := kt_M227) (τ := 3) (ci := 16) (c0 := 3) (o0 := 0) (k0 := 2) (c := 99) (o := (w_z w)) (k := 0) (a0 := (w_d (ws_new w 7 ((2 * (w_i w 3 0 5))).toNatClampNeg) 3 0 2)) (a := (w_z w)) kX4_unit_c2.2.2.2.1 (zac_X4_37) rfl rfl rfl rfl rfl ow_3_0_2 oa_3_0_2 (.inl ⟨rfl, rfl, h0.1, h0.2⟩) rfl (Nat.le_trans (by simp [kx_cat, w_cat, zac_w, z_ci, z_cr, z_cl, z_cn]) hL) h (fun h => ?_)
    refine kz_aload_n (M := kt_M227) kX4_unit_c2.2.2.2.2.1 rfl ?_
    refine kz_aload_n (M := kt_M227) kX4_unit_c2.2.2.2.2.2.1 rfl ?_
    refine kz_pfa (M := kt_M227) (c := 3) (o := 0) (τ := 7) kX4_unit_c2.2.2.2.2.2.2.1 wq_X4_23 (.inl rfl) rfl h (fun h => ?_)
    exact kz_weak [(0, .ref (w_adr E.2.1 3 0)), (1, va_rf (x1))] ⟨rfl, ⟨rfl, trivial⟩⟩ rfl (zt_X4_unit_p41 hL  h)
def zb_X10_add_p40 (E : zE) (L : Nat) (Q : kx_Rs → wS → Prop) (x0 : Nat) (x1 : Int32) (w : wS) : Prop := (kx_inb (w_i w 9 x0 1) (w_n w 9 x0 0) = true ∧ Q (.inl none) (ws_a (ws_i w 9 x0 1 ((w_i w 9 x0 1) + 1)) 9 x0 0 (w_i w 9 x0 1).toNatClampNeg x1))
theorem zt_X10_add_p40 {E : zE} {L : Nat} {Q : kx_Rs → wS → Prop} {x0 : Nat} {x1 : Int32} {w : wS} (hL : 60 ≤ L) (hl0 : w_l w E.2.1 9 x0) (h : zb_X10_add_p40 E L Q x0 x1 w) : kzE E L kt_M219 40 [(0, .ref (w_adr E.2.1 9 x0)), (1, .int x1)] [] w Q := by
  unfold zb_X10_add_p40 at h
  refine kz_aload_n (M := kt_M219) kX10_add_c2.2.2.2.2.2.2.2.1 rfl ?_
  refine kz_gfa (M := kt_M219) (c := 9) (o := x0) kX10_add_c3.1 wf_X10_7 (.inr (by exact hl0)) ?_
  refine kz_aload_n (M := kt_M219) kX10_add_c3.2.1 rfl ?_
  refine kz_dup (M := kt_M219) kX10_add_c3.2.2.1 rfl ?_
  refine kz_gfi (M := kt_M219) (c := 9) (o := x0) kX10_add_c3.2.2.2.1 wf_X10_13 (.inr (by exact hl0)) ?_
  refine kz_dup_x1 (M := kt_M219) kX10_add_c3.2.2.2.2.1 ⟨rfl, rfl⟩ ?_
  refine kz_ic (M := kt_M219) 1 kX10_add_c3.2.2.2.2.2.1 rfl ?_
  refine kz_iadd (M := kt_M219) kX10_add_c3.2.2.2.2.2.2.1 ?_
  refine kz_pfi (M := kt_M219) (c := 9) (o := x0) kX10_add_c3.2.2.2.2.2.2.2.1 wq_X10_13 (.inr (by exact hl0)) ?_
  refine kz_iload_n (M := kt_M219) kX10_add_c4.1 rfl ?_
  refine kz_iastR (M := kt_M219) (n := w_n w 9 x0 0) (c := 9) (o := x0) (k := 0) (a := (w_d w 9 x0 0)) kX10_add_c4.2.1 (.inr ⟨.inr (by exact hl0), rfl, rfl⟩) rfl ot_0 rd_n_i h (fun h => ?_)
  exact kz_ret (M := kt_M219) kX10_add_c4.2.2.1 rfl h
def zb_X10_add_p0 (E : zE) (L : Nat) (Q : kx_Rs → wS → Prop) (x0 : Nat) (x1 : Int32) (w : wS) : Prop := (if ¬ w_i w 9 x0 1 = (Int32.ofNat (w_n w 9 x0 0)) then zb_X10_add_p40 E L Q x0 x1 w else ((¬ ((2 * (w_i w 9 x0 1))) < 0 ∧ ((2 * (w_i w 9 x0 1))).toNatClampNeg * 4 ≤ 536870912 ∧ 1 ≤ w_C w ∧ ((2 * (w_i w 9 x0 1))).toNatClampNeg ≤ w_S w) ∧ (w_l (ws_new w 0 ((2 * (w_i w 9 x0 1))).toNatClampNeg) E.2.1 9 x0 ∧ ((w_o (ws_new w 0 ((2 * (w_i w 9 x0 1))).toNatClampNeg) (w_z w) = some (99, (w_z w), 0) ∧ w_t (ws_new w 0 ((2 * (w_i w 9 x0 1))).toNatClampNeg) (w_z w) = 0) ∧ (((¬ (0 : Int32) < 0 ∧ ¬ (0 : Int32) < 0 ∧ ¬ (w_i (ws_new w 0 ((2 * (w_i w 9 x0 1))).toNatClampNeg) 9 x0 1) < 0) ∧ (0 : Int32).toNatClampNeg + (w_i (ws_new w 0 ((2 * (w_i w 9 x0 1))).toNatClampNeg) 9 x0 1).toNatClampNeg ≤ w_n (ws_new w 0 ((2 * (w_i w 9 x0 1))).toNatClampNeg) 9 x0 0 ∧ (0 : Int32).toNatClampNeg + (w_i (ws_new w 0 ((2 * (w_i w 9 x0 1))).toNatClampNeg) 9 x0 1).toNatClampNeg ≤ w_n (ws_new w 0 ((2 * (w_i w 9 x0 1))).toNatClampNeg) 99 (w_z w) 0 ∧ ∀ i, i < (w_i (ws_new w 0 ((2 * (w_i w 9 x0 1))).toNatClampNeg) 9 x0 1).toNatClampNeg → fits .int (.int (w_a (ws_new w 0 ((2 * (w_i w 9 x0 1))).toNatClampNeg) 9 x0 0 ((0 : Int32).toNatClampNeg + i))) = true) ∧ ((w_o (ws_A (ws_new w 0 ((2 * (w_i w 9 x0 1))).toNatClampNeg) 99 (w_z w) 0 (va_cpy (w_a (ws_new w 0 ((2 * (w_i w 9 x0 1))).toNatClampNeg) 9 x0 0) (w_a (ws_new w 0 ((2 * (w_i w 9 x0 1))).toNatClampNeg) 99 (w_z w) 0) (0 : Int32).toNatClampNeg (0 : Int32).toNatClampNeg (w_i (ws_new w 0 ((2 * (w_i w 9 x0 1))).toNatClampNeg) 9 x0 1).toNatClampNeg)) (w_z w) = some (99, (w_z w), 0) ∧ w_t (ws_A (ws_new w 0 ((2 * (w_i w 9 x0 1))).toNatClampNeg) 99 (w_z w) 0 (va_cpy (w_a (ws_new w 0 ((2 * (w_i w 9 x0 1))).toNatClampNeg) 9 x0 0) (w_a (ws_new w 0 ((2 * (w_i w 9 x0 1))).toNatClampNeg) 99 (w_z w) 0) (0 : Int32).toNatClampNeg (0 : Int32).toNatClampNeg (w_i (ws_new w 0 ((2 * (w_i w 9 x0 1))).toNatClampNeg) 9 x0 1).toNatClampNeg)) (w_z w) = 0) ∧ (w_l (ws_put (ws_A (ws_new w 0 ((2 * (w_i w 9 x0 1))).toNatClampNeg) 99 (w_z w) 0 (va_cpy (w_a (ws_new w 0 ((2 * (w_i w 9 x0 1))).toNatClampNeg) 9 x0 0) (w_a (ws_new w 0 ((2 * (w_i w 9 x0 1))).toNatClampNeg) 99 (w_z w) 0) (0 : Int32).toNatClampNeg (0 : Int32).toNatClampNeg (w_i (ws_new w 0 ((2 * (w_i w 9 x0 1))).toNatClampNeg) 9 x0 1).toNatClampNeg)) 9 x0 0 (w_z w)) E.2.1 9 x0 ∧ zb_X10_add_p40 E L Q x0 x1 (ws_put (ws_A (ws_new w 0 ((2 * (w_i w 9 x0 1))).toNatClampNeg) 99 (w_z w) 0 (va_cpy (w_a (ws_new w 0 ((2 * (w_i w 9 x0 1))).toNatClampNeg) 9 x0 0) (w_a (ws_new w 0 ((2 * (w_i w 9 x0 1))).toNatClampNeg) 99 (w_z w) 0) (0 : Int32).toNatClampNeg (0 : Int32).toNatClampNeg (w_i (ws_new w 0 ((2 * (w_i w 9 x0 1))).toNatClampNeg) 9 x0 1).toNatClampNeg)) 9 x0 0 (w_z w)))))))))
theorem zt_X10_add_p0 {E : zE} {L : Nat} {Q : kx_Rs → wS → Prop} {x0 : Nat} {x1 : Int32} {w : wS} (hL : 60 ≤ L) (hl0 : w_l w E.2.1 9 x0) (h : zb_X10_add_p0 E L Q x0 x1 w) : kzE E L kt_M219 0 [(0, .ref (w_adr E.2.1 9 x0)), (1, .int x1)] [] w Q := by
  unfold zb_X10_add_p0 at h
  refine kz_aload_n (M := kt_M219) kX10_add_c0.1 rfl ?_
  refine kz_gfi (M := kt_M219) (c := 9) (o := x0) kX10_add_c0.2.1 wf_X10_13 (.inr (by exact hl0)) ?_
  refine kz_aload_n (M := kt_M219) kX10_add_c0.2.2.1 rfl ?_
  refine kz_gfa (M := kt_M219) (c := 9) (o := x0) kX10_add_c0.2.2.2.1 wf_X10_7 (.inr (by exact hl0)) ?_
  refine kz_alen (M := kt_M219) (c := 9) (o := x0) (k := 0) (a := (w_d w 9 x0 0)) (τ := 0) kX10_add_c0.2.2.2.2.1 (.inr ⟨.inr (by exact hl0), rfl, rfl⟩) rfl (Nat.le_of_ble_eq_true rfl) ?_
  refine kz_icmp_ne (M := kt_M219) kX10_add_c0.2.2.2.2.2.1 (t := 40) rfl h (fun h => ?_) (fun h => ?_)
  · skip
    exact kz_weak [(0, .ref (w_adr E.2.1 9 x0)), (1, .int x1)] ⟨rfl, ⟨rfl, trivial⟩⟩ rfl (zt_X10_add_p40 hL hl0  h)
  · skip
    refine kz_ic (M := kt_M219) 2 kX10_add_c0.2.2.2.2.2.2.1 rfl ?_
    refine kz_aload_n (M := kt_M219) kX10_add_c0.2.2.2.2.2.2.2.1 rfl ?_
    refine kz_gfi (M := kt_M219) (c := 9) (o := x0) kX10_add_c1.1 wf_X10_13 (.inr (by exact hl0)) ?_
    refine kz_imul (M := kt_M219) kX10_add_c1.2.1 ?_
    refine kz_newi (M := kt_M219) kX10_add_c1.2.2.1 ot_f0 ot_0 ot_ai h (fun h => ?_)
    obtain ⟨hl0, h⟩ := h
    refine kz_sta_n (M := kt_M219) [(0, .ref (w_adr E.2.1 9 x0)), (1, .int x1)] kX10_add_c1.2.2.2.1 (Nat.le_of_ble_eq_true rfl) ⟨⟨rfl, rfl, .inl rfl⟩, ⟨⟨rfl, rfl, .inr rfl⟩, trivial⟩⟩ rfl ?_
    refine kz_aload_n (M := kt_M219) kX10_add_c1.2.2.2.2.1 rfl ?_
    refine kz_gfa (M := kt_M219) (c := 9) (o := x0) kX10_add_c1.2.2.2.2.2.1 wf_X10_7 (.inr (by exact hl0)) ?_
    refine kz_ic (M := kt_M219) 0 kX10_add_c1.2.2.2.2.2.2.1 rfl ?_
    refine kz_aload_n (M := kt_M219) kX10_add_c1.2.2.2.2.2.2.2.1 rfl ?_
    refine kz_ic (M := kt_M219) 0 kX10_add_c2.1 rfl ?_
    refine kz_aload_n (M := kt_M219) kX10_add_c2.2.1 rfl ?_
    refine kz_gfi (M := kt_M219) (c := 9) (o := x0) kX10_add_c2.2.2.1 wf_X10_13 (.inr (by exact hl0)) ?_
    obtain ⟨h0, h⟩ := h
    refine kz_cpyi (M := kt_M219) (τ := 0) (ty := .int) (c0 := 9) (o0 := x0) (k0 := 0) (c := 99) (o := (w_z w)) (k := 0) (a0 := (w_d (ws_new w 0 ((2 * (w_i w 9 x0 1))).toNatClampNeg) 9 x0 0)) (a := (w_z w)) kX10_add_c2.2.2.2.1 (zac_X10_17) (by decide) rfl rfl (.inr ⟨.inr (by exact hl0), rfl, rfl⟩) rfl (.inl ⟨rfl, rfl, h0.1, h0.2⟩) rfl (Nat.le_trans (by simp [kx_cat, w_cat, zac_w, z_ci, z_cr, z_cl, z_cn]) hL) h (fun h => ?_)
    refine kz_aload_n (M := kt_M219) kX10_add_c2.2.2.2.2.1 rfl ?_
    refine kz_aload_n (M := kt_M219) kX10_add_c2.2.2.2.2.2.1 rfl ?_
    refine kz_pfa (M := kt_M219) (c := 9) (o := x0) (τ := 0) kX10_add_c2.2.2.2.2.2.2.1 wq_X10_7 (.inr (by exact hl0)) rfl h (fun h => ?_)
    obtain ⟨hl0, h⟩ := h
    exact kz_weak [(0, .ref (w_adr E.2.1 9 x0)), (1, .int x1)] ⟨rfl, ⟨rfl, trivial⟩⟩ rfl (zt_X10_add_p40 hL hl0  h)
def zL_X12_compact_p142 (E : zE) (L : Nat) (Q : kx_Rs → wS → Prop) (x1 : Int32) (w : wS) : Prop := kzE E L kt_M121 142 [(0, .ref (w_adr E.2.1 11 0)), (1, .int x1)] [] w Q
def zL_X12_compact_p7 (E : zE) (L : Nat) (Q : kx_Rs → wS → Prop) (x1 : Int32) (x2 : Int32) (x3 : Int32) (x4 : Int32) (w : wS) : Prop := kzE E L kt_M121 7 [(0, .ref (w_adr E.2.1 11 0)), (1, .int x1), (2, .int x2), (3, .int x3), (4, .int x4)] [] w Q
def zb_X12_compact_p142 (E : zE) (L : Nat) (Q : kx_Rs → wS → Prop) (x1 : Int32) (w : wS) : Prop := (if (8 * ((w_i w 11 0 7) + x1)) ≤ (7 * (Int32.ofNat (w_n w 11 0 0))) then Q (.inl none) w else zw E (L - 22) kt_M124 [.ref (w_d w 11 0 0), .int (w_i w 11 0 7)] w (wkr (fun v2 w1 => wle w w1 → (∃ a3, v2 = some a3 ∧ (w_o w1 a3 = some (99, a3, 0) ∧ w_t w1 a3 = 0) ∧ zL_X12_compact_p142 E L Q x1 (ws_put w1 11 0 0 a3))) (fun e w => Q (.inr e) w)))
theorem zt_X12_compact_p142 {E : zE} {L : Nat} {Q : kx_Rs → wS → Prop} {x1 : Int32} {w : wS} (hL : 60 ≤ L) (h : zb_X12_compact_p142 E L Q x1 w) : kzE E L kt_M121 142 [(0, .ref (w_adr E.2.1 11 0)), (1, .int x1)] [] w Q := by
  unfold zb_X12_compact_p142 at h
  refine kz_bi (M := kt_M121) 8 kX12_compact_c9.2.2.2.2.2.2.2.1 rfl ?_
  refine kz_aload_n (M := kt_M121) kX12_compact_c10.1 rfl ?_
  refine kz_gfi (M := kt_M121) (c := 11) (o := 0) kX12_compact_c10.2.1 wf_X12_33 (.inl rfl) ?_
  refine kz_iload_n (M := kt_M121) kX12_compact_c10.2.2.1 rfl ?_
  refine kz_iadd (M := kt_M121) kX12_compact_c10.2.2.2.1 ?_
  refine kz_imul (M := kt_M121) kX12_compact_c10.2.2.2.2.1 ?_
  refine kz_bi (M := kt_M121) 7 kX12_compact_c10.2.2.2.2.2.1 rfl ?_
  refine kz_aload_n (M := kt_M121) kX12_compact_c10.2.2.2.2.2.2.1 rfl ?_
  refine kz_gfa (M := kt_M121) (c := 11) (o := 0) kX12_compact_c10.2.2.2.2.2.2.2.1 wf_X12_9 (.inl rfl) ?_
  refine kz_alen (M := kt_M121) (c := 11) (o := 0) (k := 0) (a := (w_d w 11 0 0)) (τ := 0) kX12_compact_c11.1 ow_11_0_0 oa_11_0_0 (Nat.le_of_ble_eq_true rfl) ?_
  refine kz_imul (M := kt_M121) kX12_compact_c11.2.1 ?_
  refine kz_icmp_le (M := kt_M121) kX12_compact_c11.2.2.1 (t := 180) rfl h (fun h => ?_) (fun h => ?_)
  · skip
    exact kz_ret (M := kt_M121) kX12_compact_c12.2.2.2.1 rfl h
  · skip
    refine kz_aload_n (M := kt_M121) kX12_compact_c11.2.2.2.1 rfl ?_
    refine kz_aload_n (M := kt_M121) kX12_compact_c11.2.2.2.2.1 rfl ?_
    refine kz_gfa (M := kt_M121) (c := 11) (o := 0) kX12_compact_c11.2.2.2.2.2.1 wf_X12_9 (.inl rfl) ?_
    refine kz_aload_n (M := kt_M121) kX12_compact_c11.2.2.2.2.2.2.1 rfl ?_
    refine kz_gfi (M := kt_M121) (c := 11) (o := 0) kX12_compact_c11.2.2.2.2.2.2.2.1 wf_X12_33 (.inl rfl) ?_
    refine kz_csr (M := kt_M121) (As := [.ref (w_d w 11 0 0), .int (w_i w 11 0 7)]) (rest := [.ref (w_adr E.2.1 11 0)]) kX12_compact_c12.1 wl_X12_59 wMs_124 rfl (Nat.le_trans (Nat.le_of_ble_eq_true rfl) hL) (Nat.le_of_ble_eq_true rfl) (Nat.le_of_ble_eq_true rfl) h (fun v2 w1 hle h => ?_) (fun _ _ _ h => kzx_no rfl h)
    have h := h hle
    obtain ⟨a3, hx, h⟩ := h
    refine kz_nz0 (M := kt_M121) (x := v2) hx ?_
    refine kz_pfa (M := kt_M121) (c := 11) (o := 0) (τ := 0) kX12_compact_c12.2.1 wq_X12_9 (.inl rfl) rfl h (fun h => ?_)
    refine kz_goto (M := kt_M121) kX12_compact_c12.2.2.1 (t := 142) rfl ?_
    exact kz_weak [(0, .ref (w_adr E.2.1 11 0)), (1, .int x1)] ⟨rfl, ⟨rfl, trivial⟩⟩ rfl h
def zb_X12_compact_p97 (E : zE) (L : Nat) (Q : kx_Rs → wS → Prop) (x1 : Int32) (x2 : Int32) (x3 : Int32) (x4 : Int32) (w : wS) : Prop := zL_X12_compact_p7 E L Q x1 x2 x3 (x4 + 1) w
theorem zt_X12_compact_p97 {E : zE} {L : Nat} {Q : kx_Rs → wS → Prop} {x1 : Int32} {x2 : Int32} {x3 : Int32} {x4 : Int32} {w : wS} (hL : 60 ≤ L) (h : zb_X12_compact_p97 E L Q x1 x2 x3 x4 w) : kzE E L kt_M121 97 [(0, .ref (w_adr E.2.1 11 0)), (1, .int x1), (2, .int x2), (3, .int x3), (4, .int x4)] [] w Q := by
  unfold zb_X12_compact_p97 at h
  refine kz_inc (M := kt_M121) [(0, .ref (w_adr E.2.1 11 0)), (1, .int x1), (2, .int x2), (3, .int x3)] kX12_compact_c7.1 rfl (Nat.le_of_ble_eq_true rfl) ⟨⟨rfl, rfl, .inl rfl⟩, ⟨⟨rfl, rfl, .inl rfl⟩, ⟨⟨rfl, rfl, .inl rfl⟩, ⟨⟨rfl, rfl, .inr rfl⟩, trivial⟩⟩⟩⟩ rfl ?_
  refine kz_goto (M := kt_M121) kX12_compact_c7.2.1 (t := 7) rfl ?_
  exact kz_weak [(0, .ref (w_adr E.2.1 11 0)), (1, .int x1), (2, .int x2), (3, .int x3), (4, .int (x4 + 1))] ⟨rfl, ⟨rfl, ⟨rfl, ⟨rfl, ⟨rfl, trivial⟩⟩⟩⟩⟩ rfl h
def zb_X12_compact_p7 (E : zE) (L : Nat) (Q : kx_Rs → wS → Prop) (x1 : Int32) (x2 : Int32) (x3 : Int32) (x4 : Int32) (w : wS) : Prop := (if w_i w 11 0 9 ≤ x4 then (if (2 * x3) ≤ (Int32.ofNat (w_n w 11 0 5)) then zL_X12_compact_p142 E L Q x1 (ws_i (ws_i w 11 0 7 x2) 11 0 9 x3) else zw E (L - 22) kt_M124 [.ref (w_d (ws_i (ws_i w 11 0 7 x2) 11 0 9 x3) 11 0 5), .int x3] (ws_i (ws_i w 11 0 7 x2) 11 0 9 x3) (wkr (fun v2 w1 => wle (ws_i (ws_i w 11 0 7 x2) 11 0 9 x3) w1 → (∃ a3, v2 = some a3 ∧ (w_o w1 a3 = some (99, a3, 0) ∧ w_t w1 a3 = 0) ∧ zL_X12_compact_p142 E L Q x1 (ws_put w1 11 0 5 a3))) (fun e w => Q (.inr e) w))) else (kx_inb x4 (w_n w 11 0 5) = true ∧ (if ¬ w_a w 11 0 5 (x4).toNatClampNeg = (-1) then (kx_inb (w_a w 11 0 5 (x4).toNatClampNeg) (w_n w 11 0 1) = true ∧ (kx_inb (w_a w 11 0 5 (x4).toNatClampNeg) (w_n w 11 0 2) = true ∧ (((¬ (w_a w 11 0 1 (w_a w 11 0 5 (x4).toNatClampNeg).toNatClampNeg) < 0 ∧ ¬ (x2) < 0 ∧ ¬ (w_a w 11 0 2 (w_a w 11 0 5 (x4).toNatClampNeg).toNatClampNeg) < 0) ∧ (w_a w 11 0 1 (w_a w 11 0 5 (x4).toNatClampNeg).toNatClampNeg).toNatClampNeg + (w_a w 11 0 2 (w_a w 11 0 5 (x4).toNatClampNeg).toNatClampNeg).toNatClampNeg ≤ w_n w 11 0 0 ∧ (x2).toNatClampNeg + (w_a w 11 0 2 (w_a w 11 0 5 (x4).toNatClampNeg).toNatClampNeg).toNatClampNeg ≤ w_n w 11 0 0 ∧ ∀ i, i < (w_a w 11 0 2 (w_a w 11 0 5 (x4).toNatClampNeg).toNatClampNeg).toNatClampNeg → fits .int (.int (w_a w 11 0 0 ((w_a w 11 0 1 (w_a w 11 0 5 (x4).toNatClampNeg).toNatClampNeg).toNatClampNeg + i))) = true) ∧ (w_d (ws_A w 11 0 0 (va_cpy (w_a w 11 0 0) (w_a w 11 0 0) (w_a w 11 0 1 (w_a w 11 0 5 (x4).toNatClampNeg).toNatClampNeg).toNatClampNeg (x2).toNatClampNeg (w_a w 11 0 2 (w_a w 11 0 5 (x4).toNatClampNeg).toNatClampNeg).toNatClampNeg)) 11 0 1 = w_d (ws_A w 11 0 0 (va_cpy (w_a w 11 0 0) (w_a w 11 0 0) (w_a w 11 0 1 (w_a w 11 0 5 (x4).toNatClampNeg).toNatClampNeg).toNatClampNeg (x2).toNatClampNeg (w_a w 11 0 2 (w_a w 11 0 5 (x4).toNatClampNeg).toNatClampNeg).toNatClampNeg)) 11 0 1 ∧ kx_inb (w_a w 11 0 5 (x4).toNatClampNeg) (w_n (ws_A w 11 0 0 (va_cpy (w_a w 11 0 0) (w_a w 11 0 0) (w_a w 11 0 1 (w_a w 11 0 5 (x4).toNatClampNeg).toNatClampNeg).toNatClampNeg (x2).toNatClampNeg (w_a w 11 0 2 (w_a w 11 0 5 (x4).toNatClampNeg).toNatClampNeg).toNatClampNeg)) 11 0 1) = true ∧ (w_d (ws_a (ws_A w 11 0 0 (va_cpy (w_a w 11 0 0) (w_a w 11 0 0) (w_a w 11 0 1 (w_a w 11 0 5 (x4).toNatClampNeg).toNatClampNeg).toNatClampNeg (x2).toNatClampNeg (w_a w 11 0 2 (w_a w 11 0 5 (x4).toNatClampNeg).toNatClampNeg).toNatClampNeg)) 11 0 1 (w_a w 11 0 5 (x4).toNatClampNeg).toNatClampNeg x2) 11 0 2 = w_d (ws_a (ws_A w 11 0 0 (va_cpy (w_a w 11 0 0) (w_a w 11 0 0) (w_a w 11 0 1 (w_a w 11 0 5 (x4).toNatClampNeg).toNatClampNeg).toNatClampNeg (x2).toNatClampNeg (w_a w 11 0 2 (w_a w 11 0 5 (x4).toNatClampNeg).toNatClampNeg).toNatClampNeg)) 11 0 1 (w_a w 11 0 5 (x4).toNatClampNeg).toNatClampNeg x2) 11 0 2 ∧ kx_inb (w_a w 11 0 5 (x4).toNatClampNeg) (w_n (ws_A w 11 0 0 (va_cpy (w_a w 11 0 0) (w_a w 11 0 0) (w_a w 11 0 1 (w_a w 11 0 5 (x4).toNatClampNeg).toNatClampNeg).toNatClampNeg (x2).toNatClampNeg (w_a w 11 0 2 (w_a w 11 0 5 (x4).toNatClampNeg).toNatClampNeg).toNatClampNeg)) 11 0 2) = true ∧ (w_d (ws_a (ws_A w 11 0 0 (va_cpy (w_a w 11 0 0) (w_a w 11 0 0) (w_a w 11 0 1 (w_a w 11 0 5 (x4).toNatClampNeg).toNatClampNeg).toNatClampNeg (x2).toNatClampNeg (w_a w 11 0 2 (w_a w 11 0 5 (x4).toNatClampNeg).toNatClampNeg).toNatClampNeg)) 11 0 1 (w_a w 11 0 5 (x4).toNatClampNeg).toNatClampNeg x2) 11 0 4 = w_d (ws_a (ws_A w 11 0 0 (va_cpy (w_a w 11 0 0) (w_a w 11 0 0) (w_a w 11 0 1 (w_a w 11 0 5 (x4).toNatClampNeg).toNatClampNeg).toNatClampNeg (x2).toNatClampNeg (w_a w 11 0 2 (w_a w 11 0 5 (x4).toNatClampNeg).toNatClampNeg).toNatClampNeg)) 11 0 1 (w_a w 11 0 5 (x4).toNatClampNeg).toNatClampNeg x2) 11 0 4 ∧ kx_inb (w_a w 11 0 5 (x4).toNatClampNeg) (w_n (ws_A w 11 0 0 (va_cpy (w_a w 11 0 0) (w_a w 11 0 0) (w_a w 11 0 1 (w_a w 11 0 5 (x4).toNatClampNeg).toNatClampNeg).toNatClampNeg (x2).toNatClampNeg (w_a w 11 0 2 (w_a w 11 0 5 (x4).toNatClampNeg).toNatClampNeg).toNatClampNeg)) 11 0 4) = true ∧ (w_d (ws_a (ws_a (ws_A w 11 0 0 (va_cpy (w_a w 11 0 0) (w_a w 11 0 0) (w_a w 11 0 1 (w_a w 11 0 5 (x4).toNatClampNeg).toNatClampNeg).toNatClampNeg (x2).toNatClampNeg (w_a w 11 0 2 (w_a w 11 0 5 (x4).toNatClampNeg).toNatClampNeg).toNatClampNeg)) 11 0 1 (w_a w 11 0 5 (x4).toNatClampNeg).toNatClampNeg x2) 11 0 4 (w_a w 11 0 5 (x4).toNatClampNeg).toNatClampNeg x3) 11 0 5 = w_d (ws_a (ws_a (ws_A w 11 0 0 (va_cpy (w_a w 11 0 0) (w_a w 11 0 0) (w_a w 11 0 1 (w_a w 11 0 5 (x4).toNatClampNeg).toNatClampNeg).toNatClampNeg (x2).toNatClampNeg (w_a w 11 0 2 (w_a w 11 0 5 (x4).toNatClampNeg).toNatClampNeg).toNatClampNeg)) 11 0 1 (w_a w 11 0 5 (x4).toNatClampNeg).toNatClampNeg x2) 11 0 4 (w_a w 11 0 5 (x4).toNatClampNeg).toNatClampNeg x3) 11 0 5 ∧ kx_inb x3 (w_n (ws_A w 11 0 0 (va_cpy (w_a w 11 0 0) (w_a w 11 0 0) (w_a w 11 0 1 (w_a w 11 0 5 (x4).toNatClampNeg).toNatClampNeg).toNatClampNeg (x2).toNatClampNeg (w_a w 11 0 2 (w_a w 11 0 5 (x4).toNatClampNeg).toNatClampNeg).toNatClampNeg)) 11 0 5) = true ∧ zb_X12_compact_p97 E L Q x1 (x2 + (w_a (ws_A w 11 0 0 (va_cpy (w_a w 11 0 0) (w_a w 11 0 0) (w_a w 11 0 1 (w_a w 11 0 5 (x4).toNatClampNeg).toNatClampNeg).toNatClampNeg (x2).toNatClampNeg (w_a w 11 0 2 (w_a w 11 0 5 (x4).toNatClampNeg).toNatClampNeg).toNatClampNeg)) 11 0 2 (w_a w 11 0 5 (x4).toNatClampNeg).toNatClampNeg)) (x3 + 1) x4 (ws_a (ws_a (ws_a (ws_A w 11 0 0 (va_cpy (w_a w 11 0 0) (w_a w 11 0 0) (w_a w 11 0 1 (w_a w 11 0 5 (x4).toNatClampNeg).toNatClampNeg).toNatClampNeg (x2).toNatClampNeg (w_a w 11 0 2 (w_a w 11 0 5 (x4).toNatClampNeg).toNatClampNeg).toNatClampNeg)) 11 0 1 (w_a w 11 0 5 (x4).toNatClampNeg).toNatClampNeg x2) 11 0 4 (w_a w 11 0 5 (x4).toNatClampNeg).toNatClampNeg x3) 11 0 5 (x3).toNatClampNeg (w_a w 11 0 5 (x4).toNatClampNeg))))))))) else zb_X12_compact_p97 E L Q x1 x2 x3 x4 w)))
theorem zt_X12_compact_p7 {E : zE} {L : Nat} {Q : kx_Rs → wS → Prop} {x1 : Int32} {x2 : Int32} {x3 : Int32} {x4 : Int32} {w : wS} (hL : 60 ≤ L) (h : zb_X12_compact_p7 E L Q x1 x2 x3 x4 w) : kzE E L kt_M121 7 [(0, .ref (w_adr E.2.1 11 0)), (1, .int x1), (2, .int x2), (3, .int x3), (4, .int x4)] [] w Q := by
  unfold zb_X12_compact_p7 at h
  refine kz_iload (M := kt_M121) kX12_compact_c0.2.2.2.2.2.2.1 rfl ?_
  refine kz_aload_n (M := kt_M121) kX12_compact_c0.2.2.2.2.2.2.2.1 rfl ?_
  refine kz_gfi (M := kt_M121) (c := 11) (o := 0) kX12_compact_c1.1 wf_X12_40 (.inl rfl) ?_
  refine kz_icmp_ge (M := kt_M121) kX12_compact_c1.2.1 (t := 103) rfl h (fun h => ?_) (fun h => ?_)
  · skip
    refine kz_aload_n (M := kt_M121) kX12_compact_c7.2.2.1 rfl ?_
    refine kz_iload_n (M := kt_M121) kX12_compact_c7.2.2.2.1 rfl ?_
    refine kz_pfi (M := kt_M121) (c := 11) (o := 0) kX12_compact_c7.2.2.2.2.1 wq_X12_33 (.inl rfl) ?_
    refine kz_aload_n (M := kt_M121) kX12_compact_c7.2.2.2.2.2.1 rfl ?_
    refine kz_iload_n (M := kt_M121) kX12_compact_c7.2.2.2.2.2.2.1 rfl ?_
    refine kz_pfi (M := kt_M121) (c := 11) (o := 0) kX12_compact_c7.2.2.2.2.2.2.2.1 wq_X12_40 (.inl rfl) ?_
    refine kz_ic (M := kt_M121) 2 kX12_compact_c8.1 rfl ?_
    refine kz_aload_n (M := kt_M121) kX12_compact_c8.2.1 rfl ?_
    refine kz_gfiR (M := kt_M121) (c := 11) (o := 0) x3 kX12_compact_c8.2.2.1 wf_X12_40 (.inl rfl) rd_i_e ?_
    refine kz_imul (M := kt_M121) kX12_compact_c8.2.2.2.1 ?_
    refine kz_aload_n (M := kt_M121) kX12_compact_c8.2.2.2.2.1 rfl ?_
    refine kz_gfa (M := kt_M121) (c := 11) (o := 0) kX12_compact_c8.2.2.2.2.2.1 wf_X12_27 (.inl rfl) ?_
    refine kz_alen (M := kt_M121) (c := 11) (o := 0) (k := 5) (a := (w_d (ws_i (ws_i w 11 0 7 x2) 11 0 9 x3) 11 0 5)) (τ := 0) kX12_compact_c8.2.2.2.2.2.2.1 ow_11_0_5 oa_11_0_5 (Nat.le_of_ble_eq_true rfl) ?_
    refine kz_icmp_le (M := kt_M121) kX12_compact_c8.2.2.2.2.2.2.2.1 (t := 142) rfl h (fun h => ?_) (fun h => ?_)
    · skip
      exact kz_weak [(0, .ref (w_adr E.2.1 11 0)), (1, .int x1)] ⟨rfl, ⟨rfl, trivial⟩⟩ rfl h
    · skip
      refine kz_aload_n (M := kt_M121) kX12_compact_c9.1 rfl ?_
      refine kz_aload_n (M := kt_M121) kX12_compact_c9.2.1 rfl ?_
      refine kz_gfa (M := kt_M121) (c := 11) (o := 0) kX12_compact_c9.2.2.1 wf_X12_27 (.inl rfl) ?_
      refine kz_aload_n (M := kt_M121) kX12_compact_c9.2.2.2.1 rfl ?_
      refine kz_gfiR (M := kt_M121) (c := 11) (o := 0) x3 kX12_compact_c9.2.2.2.2.1 wf_X12_40 (.inl rfl) rd_i_e ?_
      refine kz_csr (M := kt_M121) (As := [.ref (w_d (ws_i (ws_i w 11 0 7 x2) 11 0 9 x3) 11 0 5), .int x3]) (rest := [.ref (w_adr E.2.1 11 0)]) kX12_compact_c9.2.2.2.2.2.1 wl_X12_59 wMs_124 rfl (Nat.le_trans (Nat.le_of_ble_eq_true rfl) hL) (Nat.le_of_ble_eq_true rfl) (Nat.le_of_ble_eq_true rfl) h (fun v2 w1 hle h => ?_) (fun _ _ _ h => kzx_no rfl h)
      have h := h hle
      obtain ⟨a3, hx, h⟩ := h
      refine kz_nz0 (M := kt_M121) (x := v2) hx ?_
      refine kz_pfa (M := kt_M121) (c := 11) (o := 0) (τ := 0) kX12_compact_c9.2.2.2.2.2.2.1 wq_X12_27 (.inl rfl) rfl h (fun h => ?_)
      exact kz_weak [(0, .ref (w_adr E.2.1 11 0)), (1, .int x1)] ⟨rfl, ⟨rfl, trivial⟩⟩ rfl h
  · skip
    refine kz_aload_n (M := kt_M121) kX12_compact_c1.2.2.1 rfl ?_
    refine kz_gfa (M := kt_M121) (c := 11) (o := 0) kX12_compact_c1.2.2.2.1 wf_X12_27 (.inl rfl) ?_
    refine kz_iload (M := kt_M121) kX12_compact_c1.2.2.2.2.1 rfl ?_
    refine kz_iald (M := kt_M121) (c := 11) (o := 0) (k := 5) (a := (w_d w 11 0 5)) kX12_compact_c1.2.2.2.2.2.1 ow_11_0_5 oa_11_0_5 ot_0 h (fun h => ?_)
    refine kz_sti (M := kt_M121) [(0, .ref (w_adr E.2.1 11 0)), (1, .int x1), (2, .int x2), (3, .int x3), (4, .int x4)] kX12_compact_c1.2.2.2.2.2.2.1 (Nat.le_of_ble_eq_true rfl) ⟨⟨rfl, rfl, .inl rfl⟩, ⟨⟨rfl, rfl, .inl rfl⟩, ⟨⟨rfl, rfl, .inl rfl⟩, ⟨⟨rfl, rfl, .inl rfl⟩, ⟨⟨rfl, rfl, .inr rfl⟩, trivial⟩⟩⟩⟩⟩ rfl ?_
    refine kz_iload (M := kt_M121) kX12_compact_c1.2.2.2.2.2.2.2.1 rfl ?_
    refine kz_ic (M := kt_M121) (-1) kX12_compact_c2.1 rfl ?_
    refine kz_icmp_ne (M := kt_M121) kX12_compact_c2.2.1 (t := 34) rfl h (fun h => ?_) (fun h => ?_)
    · skip
      refine kz_aload_n (M := kt_M121) kX12_compact_c2.2.2.2.1 rfl ?_
      refine kz_gfa (M := kt_M121) (c := 11) (o := 0) kX12_compact_c2.2.2.2.2.1 wf_X12_9 (.inl rfl) ?_
      refine kz_aload_n (M := kt_M121) kX12_compact_c2.2.2.2.2.2.1 rfl ?_
      refine kz_gfa (M := kt_M121) (c := 11) (o := 0) kX12_compact_c2.2.2.2.2.2.2.1 wf_X12_15 (.inl rfl) ?_
      refine kz_iload (M := kt_M121) kX12_compact_c2.2.2.2.2.2.2.2.1 rfl ?_
      refine kz_iald (M := kt_M121) (c := 11) (o := 0) (k := 1) (a := (w_d w 11 0 1)) kX12_compact_c3.1 ow_11_0_1 oa_11_0_1 ot_0 h (fun h => ?_)
      refine kz_aload_n (M := kt_M121) kX12_compact_c3.2.1 rfl ?_
      refine kz_gfa (M := kt_M121) (c := 11) (o := 0) kX12_compact_c3.2.2.1 wf_X12_9 (.inl rfl) ?_
      refine kz_iload_n (M := kt_M121) kX12_compact_c3.2.2.2.1 rfl ?_
      refine kz_aload_n (M := kt_M121) kX12_compact_c3.2.2.2.2.1 rfl ?_
      refine kz_gfa (M := kt_M121) (c := 11) (o := 0) kX12_compact_c3.2.2.2.2.2.1 wf_X12_18 (.inl rfl) ?_
      refine kz_iload (M := kt_M121) kX12_compact_c3.2.2.2.2.2.2.1 rfl ?_
      refine kz_iald (M := kt_M121) (c := 11) (o := 0) (k := 2) (a := (w_d w 11 0 2)) kX12_compact_c3.2.2.2.2.2.2.2.1 ow_11_0_2 oa_11_0_2 ot_0 h (fun h => ?_)
      refine kz_cpyi (M := kt_M121) (τ := 0) (ty := .int) (c0 := 11) (o0 := 0) (k0 := 0) (c := 11) (o := 0) (k := 0) (a0 := (w_d w 11 0 0)) (a := (w_d w 11 0 0)) kX12_compact_c4.1 (zac_X12_49) (by decide) rfl rfl ow_11_0_0 oa_11_0_0 ow_11_0_0 oa_11_0_0 (Nat.le_trans (by simp [kx_cat, w_cat, zac_w, z_ci, z_cr, z_cl, z_cn]) hL) h (fun h => ?_)
      refine kz_aload_n (M := kt_M121) kX12_compact_c4.2.1 rfl ?_
      refine kz_gfa (M := kt_M121) (c := 11) (o := 0) kX12_compact_c4.2.2.1 wf_X12_15 (.inl rfl) ?_
      refine kz_iload (M := kt_M121) kX12_compact_c4.2.2.2.1 rfl ?_
      refine kz_iload_n (M := kt_M121) kX12_compact_c4.2.2.2.2.1 rfl ?_
      obtain ⟨h0, h⟩ := h
      refine kz_iast (M := kt_M121) (c := 11) (o := 0) (k := 1) (a := (w_d (ws_A w 11 0 0 (va_cpy (w_a w 11 0 0) (w_a w 11 0 0) (w_a w 11 0 1 (w_a w 11 0 5 (x4).toNatClampNeg).toNatClampNeg).toNatClampNeg (x2).toNatClampNeg (w_a w 11 0 2 (w_a w 11 0 5 (x4).toNatClampNeg).toNatClampNeg).toNatClampNeg)) 11 0 1)) kX12_compact_c4.2.2.2.2.2.1 ow_11_0_1 h0 ot_0 h (fun h => ?_)
      refine kz_iload_n (M := kt_M121) kX12_compact_c4.2.2.2.2.2.2.1 rfl ?_
      refine kz_aload_n (M := kt_M121) kX12_compact_c4.2.2.2.2.2.2.2.1 rfl ?_
      refine kz_gfa (M := kt_M121) (c := 11) (o := 0) kX12_compact_c5.1 wf_X12_18 (.inl rfl) ?_
      refine kz_iload (M := kt_M121) kX12_compact_c5.2.1 rfl ?_
      obtain ⟨h0, h⟩ := h
      refine kz_ialdR (M := kt_M121) (n := w_n (ws_A w 11 0 0 (va_cpy (w_a w 11 0 0) (w_a w 11 0 0) (w_a w 11 0 1 (w_a w 11 0 5 (x4).toNatClampNeg).toNatClampNeg).toNatClampNeg (x2).toNatClampNeg (w_a w 11 0 2 (w_a w 11 0 5 (x4).toNatClampNeg).toNatClampNeg).toNatClampNeg)) 11 0 2) (c := 11) (o := 0) (k := 2) (a := (w_d (ws_a (ws_A w 11 0 0 (va_cpy (w_a w 11 0 0) (w_a w 11 0 0) (w_a w 11 0 1 (w_a w 11 0 5 (x4).toNatClampNeg).toNatClampNeg).toNatClampNeg (x2).toNatClampNeg (w_a w 11 0 2 (w_a w 11 0 5 (x4).toNatClampNeg).toNatClampNeg).toNatClampNeg)) 11 0 1 (w_a w 11 0 5 (x4).toNatClampNeg).toNatClampNeg x2) 11 0 2)) (w_a (ws_A w 11 0 0 (va_cpy (w_a w 11 0 0) (w_a w 11 0 0) (w_a w 11 0 1 (w_a w 11 0 5 (x4).toNatClampNeg).toNatClampNeg).toNatClampNeg (x2).toNatClampNeg (w_a w 11 0 2 (w_a w 11 0 5 (x4).toNatClampNeg).toNatClampNeg).toNatClampNeg)) 11 0 2 (w_a w 11 0 5 (x4).toNatClampNeg).toNatClampNeg) kX12_compact_c5.2.2.1 ow_11_0_2 h0 ot_0 rd_n_a (rd_a_a rfl) h (fun h => ?_)
      refine kz_iadd (M := kt_M121) kX12_compact_c5.2.2.2.1 ?_
      refine kz_sti_n (M := kt_M121) [(0, .ref (w_adr E.2.1 11 0)), (1, .int x1), (3, .int x3), (4, .int x4), (5, .int (w_a w 11 0 5 (x4).toNatClampNeg))] kX12_compact_c5.2.2.2.2.1 (Nat.le_of_ble_eq_true rfl) ⟨⟨rfl, rfl, .inl rfl⟩, ⟨⟨rfl, rfl, .inr rfl⟩, ⟨⟨rfl, rfl, .inl rfl⟩, ⟨⟨rfl, rfl, .inl rfl⟩, ⟨⟨rfl, rfl, .inl rfl⟩, trivial⟩⟩⟩⟩⟩ rfl ?_
      refine kz_aload_n (M := kt_M121) kX12_compact_c5.2.2.2.2.2.1 rfl ?_
      refine kz_gfa (M := kt_M121) (c := 11) (o := 0) kX12_compact_c5.2.2.2.2.2.2.1 wf_X12_24 (.inl rfl) ?_
      refine kz_iload (M := kt_M121) kX12_compact_c5.2.2.2.2.2.2.2.1 rfl ?_
      refine kz_iload_n (M := kt_M121) kX12_compact_c6.1 rfl ?_
      obtain ⟨h0, h⟩ := h
      refine kz_iastR (M := kt_M121) (n := w_n (ws_A w 11 0 0 (va_cpy (w_a w 11 0 0) (w_a w 11 0 0) (w_a w 11 0 1 (w_a w 11 0 5 (x4).toNatClampNeg).toNatClampNeg).toNatClampNeg (x2).toNatClampNeg (w_a w 11 0 2 (w_a w 11 0 5 (x4).toNatClampNeg).toNatClampNeg).toNatClampNeg)) 11 0 4) (c := 11) (o := 0) (k := 4) (a := (w_d (ws_a (ws_A w 11 0 0 (va_cpy (w_a w 11 0 0) (w_a w 11 0 0) (w_a w 11 0 1 (w_a w 11 0 5 (x4).toNatClampNeg).toNatClampNeg).toNatClampNeg (x2).toNatClampNeg (w_a w 11 0 2 (w_a w 11 0 5 (x4).toNatClampNeg).toNatClampNeg).toNatClampNeg)) 11 0 1 (w_a w 11 0 5 (x4).toNatClampNeg).toNatClampNeg x2) 11 0 4)) kX12_compact_c6.2.1 ow_11_0_4 h0 ot_0 rd_n_a h (fun h => ?_)
      refine kz_aload_n (M := kt_M121) kX12_compact_c6.2.2.1 rfl ?_
      refine kz_gfa (M := kt_M121) (c := 11) (o := 0) kX12_compact_c6.2.2.2.1 wf_X12_27 (.inl rfl) ?_
      refine kz_iload_n (M := kt_M121) kX12_compact_c6.2.2.2.2.1 rfl ?_
      refine kz_inc (M := kt_M121) [(0, .ref (w_adr E.2.1 11 0)), (1, .int x1), (2, .int (x2 + (w_a (ws_A w 11 0 0 (va_cpy (w_a w 11 0 0) (w_a w 11 0 0) (w_a w 11 0 1 (w_a w 11 0 5 (x4).toNatClampNeg).toNatClampNeg).toNatClampNeg (x2).toNatClampNeg (w_a w 11 0 2 (w_a w 11 0 5 (x4).toNatClampNeg).toNatClampNeg).toNatClampNeg)) 11 0 2 (w_a w 11 0 5 (x4).toNatClampNeg).toNatClampNeg))), (4, .int x4), (5, .int (w_a w 11 0 5 (x4).toNatClampNeg))] kX12_compact_c6.2.2.2.2.2.1 rfl (Nat.le_of_ble_eq_true rfl) ⟨⟨rfl, rfl, .inl rfl⟩, ⟨⟨rfl, rfl, .inl rfl⟩, ⟨⟨rfl, rfl, .inr rfl⟩, ⟨⟨rfl, rfl, .inl rfl⟩, ⟨⟨rfl, rfl, .inl rfl⟩, trivial⟩⟩⟩⟩⟩ rfl ?_
      refine kz_iload (M := kt_M121) kX12_compact_c6.2.2.2.2.2.2.1 rfl ?_
      obtain ⟨h0, h⟩ := h
      refine kz_iastR (M := kt_M121) (n := w_n (ws_A w 11 0 0 (va_cpy (w_a w 11 0 0) (w_a w 11 0 0) (w_a w 11 0 1 (w_a w 11 0 5 (x4).toNatClampNeg).toNatClampNeg).toNatClampNeg (x2).toNatClampNeg (w_a w 11 0 2 (w_a w 11 0 5 (x4).toNatClampNeg).toNatClampNeg).toNatClampNeg)) 11 0 5) (c := 11) (o := 0) (k := 5) (a := (w_d (ws_a (ws_a (ws_A w 11 0 0 (va_cpy (w_a w 11 0 0) (w_a w 11 0 0) (w_a w 11 0 1 (w_a w 11 0 5 (x4).toNatClampNeg).toNatClampNeg).toNatClampNeg (x2).toNatClampNeg (w_a w 11 0 2 (w_a w 11 0 5 (x4).toNatClampNeg).toNatClampNeg).toNatClampNeg)) 11 0 1 (w_a w 11 0 5 (x4).toNatClampNeg).toNatClampNeg x2) 11 0 4 (w_a w 11 0 5 (x4).toNatClampNeg).toNatClampNeg x3) 11 0 5)) kX12_compact_c6.2.2.2.2.2.2.2.1 ow_11_0_5 h0 ot_0 (rd_n_a.trans rd_n_a) h (fun h => ?_)
      exact kz_weak [(0, .ref (w_adr E.2.1 11 0)), (1, .int x1), (2, .int (x2 + (w_a (ws_A w 11 0 0 (va_cpy (w_a w 11 0 0) (w_a w 11 0 0) (w_a w 11 0 1 (w_a w 11 0 5 (x4).toNatClampNeg).toNatClampNeg).toNatClampNeg (x2).toNatClampNeg (w_a w 11 0 2 (w_a w 11 0 5 (x4).toNatClampNeg).toNatClampNeg).toNatClampNeg)) 11 0 2 (w_a w 11 0 5 (x4).toNatClampNeg).toNatClampNeg))), (3, .int (x3 + 1)), (4, .int x4)] ⟨rfl, ⟨rfl, ⟨rfl, ⟨rfl, ⟨rfl, trivial⟩⟩⟩⟩⟩ rfl (zt_X12_compact_p97 hL  h)
    · skip
      refine kz_goto (M := kt_M121) kX12_compact_c2.2.2.1 (t := 97) rfl ?_
      exact kz_weak [(0, .ref (w_adr E.2.1 11 0)), (1, .int x1), (2, .int x2), (3, .int x3), (4, .int x4)] ⟨rfl, ⟨rfl, ⟨rfl, ⟨rfl, ⟨rfl, trivial⟩⟩⟩⟩⟩ rfl (zt_X12_compact_p97 hL  h)
def zb_X12_compact_p0 (E : zE) (L : Nat) (Q : kx_Rs → wS → Prop) (x1 : Int32) (w : wS) : Prop := zL_X12_compact_p7 E L Q x1 0 0 0 w
theorem zt_X12_compact_p0 {E : zE} {L : Nat} {Q : kx_Rs → wS → Prop} {x1 : Int32} {w : wS} (hL : 60 ≤ L) (h : zb_X12_compact_p0 E L Q x1 w) : kzE E L kt_M121 0 [(0, .ref (w_adr E.2.1 11 0)), (1, .int x1)] [] w Q := by
  unfold zb_X12_compact_p0 at h
  refine kz_ic (M := kt_M121) 0 kX12_compact_c0.1 rfl ?_
  refine kz_sti_n (M := kt_M121) [(0, .ref (w_adr E.2.1 11 0)), (1, .int x1)] kX12_compact_c0.2.1 (Nat.le_of_ble_eq_true rfl) ⟨⟨rfl, rfl, .inl rfl⟩, ⟨⟨rfl, rfl, .inr rfl⟩, trivial⟩⟩ rfl ?_
  refine kz_ic (M := kt_M121) 0 kX12_compact_c0.2.2.1 rfl ?_
  refine kz_sti_n (M := kt_M121) [(0, .ref (w_adr E.2.1 11 0)), (1, .int x1), (2, .int 0)] kX12_compact_c0.2.2.2.1 (Nat.le_of_ble_eq_true rfl) ⟨⟨rfl, rfl, .inl rfl⟩, ⟨⟨rfl, rfl, .inl rfl⟩, ⟨⟨rfl, rfl, .inr rfl⟩, trivial⟩⟩⟩ rfl ?_
  refine kz_ic (M := kt_M121) 0 kX12_compact_c0.2.2.2.2.1 rfl ?_
  refine kz_sti (M := kt_M121) [(0, .ref (w_adr E.2.1 11 0)), (1, .int x1), (2, .int 0), (3, .int 0)] kX12_compact_c0.2.2.2.2.2.1 (Nat.le_of_ble_eq_true rfl) ⟨⟨rfl, rfl, .inl rfl⟩, ⟨⟨rfl, rfl, .inl rfl⟩, ⟨⟨rfl, rfl, .inl rfl⟩, ⟨⟨rfl, rfl, .inr rfl⟩, trivial⟩⟩⟩⟩ rfl ?_
  exact kz_weak [(0, .ref (w_adr E.2.1 11 0)), (1, .int x1), (2, .int 0), (3, .int 0), (4, .int 0)] ⟨rfl, ⟨rfl, ⟨rfl, ⟨rfl, ⟨rfl, trivial⟩⟩⟩⟩⟩ rfl h
def zb_X12_grown_p0 (E : zE) (L : Nat) (Q : kx_Rs → wS → Prop) (c0 o0 k0 : Nat) (x1 : Int32) (w : wS) : Prop := ((¬ ((2 * (Int32.ofNat (w_n w c0 o0 k0)))) < 0 ∧ ((2 * (Int32.ofNat (w_n w c0 o0 k0)))).toNatClampNeg * 4 ≤ 536870912 ∧ 1 ≤ w_C w ∧ ((2 * (Int32.ofNat (w_n w c0 o0 k0)))).toNatClampNeg ≤ w_S w) ∧ (w_own (ws_new w 0 ((2 * (Int32.ofNat (w_n w c0 o0 k0)))).toNatClampNeg) wG E.2.1 0 c0 o0 k0 ∧ ((w_o (ws_new w 0 ((2 * (Int32.ofNat (w_n w c0 o0 k0)))).toNatClampNeg) (w_z w) = some (99, (w_z w), 0) ∧ w_t (ws_new w 0 ((2 * (Int32.ofNat (w_n w c0 o0 k0)))).toNatClampNeg) (w_z w) = 0) ∧ (((¬ (0 : Int32) < 0 ∧ ¬ (0 : Int32) < 0 ∧ ¬ (x1) < 0) ∧ (0 : Int32).toNatClampNeg + (x1).toNatClampNeg ≤ w_n (ws_new w 0 ((2 * (Int32.ofNat (w_n w c0 o0 k0)))).toNatClampNeg) c0 o0 k0 ∧ (0 : Int32).toNatClampNeg + (x1).toNatClampNeg ≤ w_n (ws_new w 0 ((2 * (Int32.ofNat (w_n w c0 o0 k0)))).toNatClampNeg) 99 (w_z w) 0 ∧ ∀ i, i < (x1).toNatClampNeg → fits .int (.int (w_a (ws_new w 0 ((2 * (Int32.ofNat (w_n w c0 o0 k0)))).toNatClampNeg) c0 o0 k0 ((0 : Int32).toNatClampNeg + i))) = true) ∧ Q (.inl (some (.ref (w_z w)))) (ws_A (ws_new w 0 ((2 * (Int32.ofNat (w_n w c0 o0 k0)))).toNatClampNeg) 99 (w_z w) 0 (va_cpy (w_a (ws_new w 0 ((2 * (Int32.ofNat (w_n w c0 o0 k0)))).toNatClampNeg) c0 o0 k0) (w_a (ws_new w 0 ((2 * (Int32.ofNat (w_n w c0 o0 k0)))).toNatClampNeg) 99 (w_z w) 0) (0 : Int32).toNatClampNeg (0 : Int32).toNatClampNeg (x1).toNatClampNeg))))))
theorem zt_X12_grown_p0 {E : zE} {L : Nat} {Q : kx_Rs → wS → Prop} {c0 o0 k0 : Nat} {x1 : Int32} {w : wS} (hL : 60 ≤ L) (ho0 : w_own w wG E.2.1 0 c0 o0 k0) (h : zb_X12_grown_p0 E L Q c0 o0 k0 x1 w) : kzE E L kt_M124 0 [(0, .ref (w_aa wG E.2.1 w c0 o0 k0)), (1, .int x1)] [] w Q := by
  unfold zb_X12_grown_p0 at h
  refine kz_ic (M := kt_M124) 2 kX12_grown_c0.1 rfl ?_
  refine kz_aload_n (M := kt_M124) kX12_grown_c0.2.1 rfl ?_
  refine kz_alen (M := kt_M124) (c := c0) (o := o0) (k := k0) (a := (w_aa wG E.2.1 w c0 o0 k0)) (τ := 0) kX12_grown_c0.2.2.1 ho0 rfl (Nat.le_of_ble_eq_true rfl) ?_
  refine kz_imul (M := kt_M124) kX12_grown_c0.2.2.2.1 ?_
  refine kz_newi (M := kt_M124) kX12_grown_c0.2.2.2.2.1 ot_f0 ot_0 ot_ai h (fun h => ?_)
  obtain ⟨ho0, h⟩ := h
  refine kz_sta_n (M := kt_M124) [(0, .ref (w_aa wG E.2.1 (ws_new w 0 ((2 * (Int32.ofNat (w_n w c0 o0 k0)))).toNatClampNeg) c0 o0 k0)), (1, .int x1)] kX12_grown_c0.2.2.2.2.2.1 (Nat.le_of_ble_eq_true rfl) ⟨⟨rfl, rfl, .inl rfl⟩, ⟨⟨rfl, rfl, .inr rfl⟩, trivial⟩⟩ rfl ?_
  refine kz_aload_n (M := kt_M124) kX12_grown_c0.2.2.2.2.2.2.1 rfl ?_
  refine kz_ic (M := kt_M124) 0 kX12_grown_c0.2.2.2.2.2.2.2.1 rfl ?_
  refine kz_aload_n (M := kt_M124) kX12_grown_c1.1 rfl ?_
  refine kz_ic (M := kt_M124) 0 kX12_grown_c1.2.1 rfl ?_
  refine kz_iload_n (M := kt_M124) kX12_grown_c1.2.2.1 rfl ?_
  obtain ⟨h0, h⟩ := h
  refine kz_cpyi (M := kt_M124) (τ := 0) (ty := .int) (c0 := c0) (o0 := o0) (k0 := k0) (c := 99) (o := (w_z w)) (k := 0) (a0 := (w_aa wG E.2.1 (ws_new w 0 ((2 * (Int32.ofNat (w_n w c0 o0 k0)))).toNatClampNeg) c0 o0 k0)) (a := (w_z w)) kX12_grown_c1.2.2.2.1 (zac_X12_49) (by decide) rfl rfl ho0 rfl (.inl ⟨rfl, rfl, h0.1, h0.2⟩) rfl (Nat.le_trans (by simp [kx_cat, w_cat, zac_w, z_ci, z_cr, z_cl, z_cn]) hL) h (fun h => ?_)
  refine kz_aload_n (M := kt_M124) kX12_grown_c1.2.2.2.2.1 rfl ?_
  exact kz_areta (M := kt_M124) kX12_grown_c1.2.2.2.2.2.1 rfl h
def zb_X12_move_p0 (E : zE) (L : Nat) (Q : kx_Rs → wS → Prop) (x1 : Int32) (x2 : Int32) (x3 : Int32) (w : wS) : Prop := (kx_inb (x2 >>> (13 &&& 31)) (w_n w 11 0 1) = true ∧ (kx_inb (x1 >>> (13 &&& 31)) (w_n w 11 0 1) = true ∧ (((¬ (((w_a w 11 0 1 ((x2 >>> (13 &&& 31))).toNatClampNeg) + (x2 &&& 8191))) < 0 ∧ ¬ (((w_a w 11 0 1 ((x1 >>> (13 &&& 31))).toNatClampNeg) + (x1 &&& 8191))) < 0 ∧ ¬ (x3) < 0) ∧ (((w_a w 11 0 1 ((x2 >>> (13 &&& 31))).toNatClampNeg) + (x2 &&& 8191))).toNatClampNeg + (x3).toNatClampNeg ≤ w_n w 11 0 0 ∧ (((w_a w 11 0 1 ((x1 >>> (13 &&& 31))).toNatClampNeg) + (x1 &&& 8191))).toNatClampNeg + (x3).toNatClampNeg ≤ w_n w 11 0 0 ∧ ∀ i, i < (x3).toNatClampNeg → fits .int (.int (w_a w 11 0 0 ((((w_a w 11 0 1 ((x2 >>> (13 &&& 31))).toNatClampNeg) + (x2 &&& 8191))).toNatClampNeg + i))) = true) ∧ Q (.inl none) (ws_A w 11 0 0 (va_cpy (w_a w 11 0 0) (w_a w 11 0 0) (((w_a w 11 0 1 ((x2 >>> (13 &&& 31))).toNatClampNeg) + (x2 &&& 8191))).toNatClampNeg (((w_a w 11 0 1 ((x1 >>> (13 &&& 31))).toNatClampNeg) + (x1 &&& 8191))).toNatClampNeg (x3).toNatClampNeg)))))
theorem zt_X12_move_p0 {E : zE} {L : Nat} {Q : kx_Rs → wS → Prop} {x1 : Int32} {x2 : Int32} {x3 : Int32} {w : wS} (hL : 60 ≤ L) (h : zb_X12_move_p0 E L Q x1 x2 x3 w) : kzE E L kt_M126 0 [(0, .ref (w_adr E.2.1 11 0)), (1, .int x1), (2, .int x2), (3, .int x3)] [] w Q := by
  unfold zb_X12_move_p0 at h
  refine kz_aload_n (M := kt_M126) kX12_move_c0.1 rfl ?_
  refine kz_gfa (M := kt_M126) (c := 11) (o := 0) kX12_move_c0.2.1 wf_X12_9 (.inl rfl) ?_
  refine kz_aload_n (M := kt_M126) kX12_move_c0.2.2.1 rfl ?_
  refine kz_gfa (M := kt_M126) (c := 11) (o := 0) kX12_move_c0.2.2.2.1 wf_X12_15 (.inl rfl) ?_
  refine kz_iload_n (M := kt_M126) kX12_move_c0.2.2.2.2.1 rfl ?_
  refine kz_bi (M := kt_M126) 13 kX12_move_c0.2.2.2.2.2.1 rfl ?_
  refine kz_ishr (M := kt_M126) kX12_move_c0.2.2.2.2.2.2.1 ?_
  refine kz_iald (M := kt_M126) (c := 11) (o := 0) (k := 1) (a := (w_d w 11 0 1)) kX12_move_c0.2.2.2.2.2.2.2.1 ow_11_0_1 oa_11_0_1 ot_0 h (fun h => ?_)
  refine kz_iload_n (M := kt_M126) kX12_move_c1.1 rfl ?_
  refine kz_si (M := kt_M126) 8191 kX12_move_c1.2.1 rfl ?_
  refine kz_iand (M := kt_M126) kX12_move_c1.2.2.1 ?_
  refine kz_iadd (M := kt_M126) kX12_move_c1.2.2.2.1 ?_
  refine kz_aload_n (M := kt_M126) kX12_move_c1.2.2.2.2.1 rfl ?_
  refine kz_gfa (M := kt_M126) (c := 11) (o := 0) kX12_move_c1.2.2.2.2.2.1 wf_X12_9 (.inl rfl) ?_
  refine kz_aload_n (M := kt_M126) kX12_move_c1.2.2.2.2.2.2.1 rfl ?_
  refine kz_gfa (M := kt_M126) (c := 11) (o := 0) kX12_move_c1.2.2.2.2.2.2.2.1 wf_X12_15 (.inl rfl) ?_
  refine kz_iload_n (M := kt_M126) kX12_move_c2.1 rfl ?_
  refine kz_bi (M := kt_M126) 13 kX12_move_c2.2.1 rfl ?_
  refine kz_ishr (M := kt_M126) kX12_move_c2.2.2.1 ?_
  refine kz_iald (M := kt_M126) (c := 11) (o := 0) (k := 1) (a := (w_d w 11 0 1)) kX12_move_c2.2.2.2.1 ow_11_0_1 oa_11_0_1 ot_0 h (fun h => ?_)
  refine kz_iload_n (M := kt_M126) kX12_move_c2.2.2.2.2.1 rfl ?_
  refine kz_si (M := kt_M126) 8191 kX12_move_c2.2.2.2.2.2.1 rfl ?_
  refine kz_iand (M := kt_M126) kX12_move_c2.2.2.2.2.2.2.1 ?_
  refine kz_iadd (M := kt_M126) kX12_move_c2.2.2.2.2.2.2.2.1 ?_
  refine kz_iload_n (M := kt_M126) kX12_move_c3.1 rfl ?_
  refine kz_cpyi (M := kt_M126) (τ := 0) (ty := .int) (c0 := 11) (o0 := 0) (k0 := 0) (c := 11) (o := 0) (k := 0) (a0 := (w_d w 11 0 0)) (a := (w_d w 11 0 0)) kX12_move_c3.2.1 (zac_X12_49) (by decide) rfl rfl ow_11_0_0 oa_11_0_0 ow_11_0_0 oa_11_0_0 (Nat.le_trans (by simp [kx_cat, w_cat, zac_w, z_ci, z_cr, z_cl, z_cn]) hL) h (fun h => ?_)
  exact kz_ret (M := kt_M126) kX12_move_c3.2.2.1 rfl h
def zb_X15_two_p160 (E : zE) (L : Nat) (Q : kx_Rs → wS → Prop) (y0 : Int32) (w : wS) : Prop := Q (.inl (some (.int y0))) w
theorem zt_X15_two_p160 {E : zE} {L : Nat} {Q : kx_Rs → wS → Prop} {y0 : Int32} {w : wS} (hL : 19 ≤ L) (h : zb_X15_two_p160 E L Q y0 w) : kzE E L kt_M335 160 [] [.int y0] w Q := by
  unfold zb_X15_two_p160 at h
  exact kz_iret (M := kt_M335) kX15_two_c7.1 rfl rfl h
def zb_X15_two_p147 (E : zE) (L : Nat) (Q : kx_Rs → wS → Prop) (y0 : Int32) (w : wS) : Prop := Q (.inl (some (.int y0))) w
theorem zt_X15_two_p147 {E : zE} {L : Nat} {Q : kx_Rs → wS → Prop} {y0 : Int32} {w : wS} (hL : 19 ≤ L) (h : zb_X15_two_p147 E L Q y0 w) : kzE E L kt_M335 147 [] [.int y0] w Q := by
  unfold zb_X15_two_p147 at h
  exact kz_iret (M := kt_M335) kX15_two_c6.2.1 rfl rfl h
def zb_X15_two_p134 (E : zE) (L : Nat) (Q : kx_Rs → wS → Prop) (y0 : Int32) (w : wS) : Prop := Q (.inl (some (.int y0))) w
theorem zt_X15_two_p134 {E : zE} {L : Nat} {Q : kx_Rs → wS → Prop} {y0 : Int32} {w : wS} (hL : 19 ≤ L) (h : zb_X15_two_p134 E L Q y0 w) : kzE E L kt_M335 134 [] [.int y0] w Q := by
  unfold zb_X15_two_p134 at h
  exact kz_iret (M := kt_M335) kX15_two_c5.2.2.1 rfl rfl h
def zb_X15_two_p99 (E : zE) (L : Nat) (Q : kx_Rs → wS → Prop) (y0 : Int32) (w : wS) : Prop := Q (.inl (some (.int y0))) w
theorem zt_X15_two_p99 {E : zE} {L : Nat} {Q : kx_Rs → wS → Prop} {y0 : Int32} {w : wS} (hL : 19 ≤ L) (h : zb_X15_two_p99 E L Q y0 w) : kzE E L kt_M335 99 [] [.int y0] w Q := by
  unfold zb_X15_two_p99 at h
  exact kz_iret (M := kt_M335) kX15_two_c3.2.1 rfl rfl h
def zb_X15_two_p64 (E : zE) (L : Nat) (Q : kx_Rs → wS → Prop) (y0 : Int32) (w : wS) : Prop := Q (.inl (some (.int y0))) w
theorem zt_X15_two_p64 {E : zE} {L : Nat} {Q : kx_Rs → wS → Prop} {y0 : Int32} {w : wS} (hL : 19 ≤ L) (h : zb_X15_two_p64 E L Q y0 w) : kzE E L kt_M335 64 [] [.int y0] w Q := by
  unfold zb_X15_two_p64 at h
  exact kz_iret (M := kt_M335) kX15_two_c1.1 rfl rfl h
def zb_X15_two_p0 (E : zE) (L : Nat) (Q : kx_Rs → wS → Prop) (x0 : Int32) (x1 : Int32) (w : wS) : Prop := (if x0 = 47 then (if ¬ x1 = 92 then zb_X15_two_p147 E L Q (-1) w else zb_X15_two_p147 E L Q 58 w) else (if x0 = 58 then (if ¬ x1 = 61 then zb_X15_two_p64 E L Q (-1) w else zb_X15_two_p64 E L Q 43 w) else (if x0 = 60 then (if ¬ x1 = 62 then (if ¬ x1 = 61 then (if ¬ x1 = 60 then zb_X15_two_p99 E L Q (-1) w else zb_X15_two_p99 E L Q 61 w) else zb_X15_two_p99 E L Q 50 w) else zb_X15_two_p99 E L Q 48 w) else (if x0 = 62 then (if ¬ x1 = 61 then (if ¬ x1 = 60 then (if ¬ x1 = 62 then zb_X15_two_p134 E L Q (-1) w else zb_X15_two_p134 E L Q 62 w) else zb_X15_two_p134 E L Q 60 w) else zb_X15_two_p134 E L Q 52 w) else (if x0 = 92 then (if ¬ x1 = 47 then zb_X15_two_p160 E L Q (-1) w else zb_X15_two_p160 E L Q 59 w) else Q (.inl (some (.int (-1)))) w)))))
theorem zt_X15_two_p0 {E : zE} {L : Nat} {Q : kx_Rs → wS → Prop} {x0 : Int32} {x1 : Int32} {w : wS} (hL : 19 ≤ L) (h : zb_X15_two_p0 E L Q x0 x1 w) : kzE E L kt_M335 0 [(0, .int x0), (1, .int x1)] [] w Q := by
  unfold zb_X15_two_p0 at h
  refine kz_iload_n (M := kt_M335) kX15_two_c0.1 rfl ?_
  refine kz_lsw (M := kt_M335) [(47, 135), (58, 52), (60, 65), (62, 100), (92, 148)] [_, _, _, _, _] 161 dX15_two_p1 (by decide +kernel) (by decide +kernel) h ⟨fun h => ?_, fun h => ?_, fun h => ?_, fun h => ?_, fun h => ?_, trivial⟩ (fun h => ?_)
  · skip
    refine kz_iload_n (M := kt_M335) kX15_two_c5.2.2.2.1 rfl ?_
    refine kz_bi (M := kt_M335) 92 kX15_two_c5.2.2.2.2.1 rfl ?_
    refine kz_icmp_ne (M := kt_M335) kX15_two_c5.2.2.2.2.2.1 (t := 146) rfl h (fun h => ?_) (fun h => ?_)
    · skip
      refine kz_ic (M := kt_M335) (-1) kX15_two_c6.1 rfl ?_
      exact kz_weak [] trivial rfl (zt_X15_two_p147 hL  h)
    · skip
      refine kz_bi (M := kt_M335) 58 kX15_two_c5.2.2.2.2.2.2.1 rfl ?_
      refine kz_goto (M := kt_M335) kX15_two_c5.2.2.2.2.2.2.2.1 (t := 147) rfl ?_
      exact kz_weak [] trivial rfl (zt_X15_two_p147 hL  h)
  · skip
    refine kz_iload_n (M := kt_M335) kX15_two_c0.2.2.1 rfl ?_
    refine kz_bi (M := kt_M335) 61 kX15_two_c0.2.2.2.1 rfl ?_
    refine kz_icmp_ne (M := kt_M335) kX15_two_c0.2.2.2.2.1 (t := 63) rfl h (fun h => ?_) (fun h => ?_)
    · skip
      refine kz_ic (M := kt_M335) (-1) kX15_two_c0.2.2.2.2.2.2.2.1 rfl ?_
      exact kz_weak [] trivial rfl (zt_X15_two_p64 hL  h)
    · skip
      refine kz_bi (M := kt_M335) 43 kX15_two_c0.2.2.2.2.2.1 rfl ?_
      refine kz_goto (M := kt_M335) kX15_two_c0.2.2.2.2.2.2.1 (t := 64) rfl ?_
      exact kz_weak [] trivial rfl (zt_X15_two_p64 hL  h)
  · skip
    refine kz_iload_n (M := kt_M335) kX15_two_c1.2.1 rfl ?_
    refine kz_bi (M := kt_M335) 62 kX15_two_c1.2.2.1 rfl ?_
    refine kz_icmp_ne (M := kt_M335) kX15_two_c1.2.2.2.1 (t := 76) rfl h (fun h => ?_) (fun h => ?_)
    · skip
      refine kz_iload_n (M := kt_M335) kX15_two_c1.2.2.2.2.2.2.1 rfl ?_
      refine kz_bi (M := kt_M335) 61 kX15_two_c1.2.2.2.2.2.2.2.1 rfl ?_
      refine kz_icmp_ne (M := kt_M335) kX15_two_c2.1 (t := 87) rfl h (fun h => ?_) (fun h => ?_)
      · skip
        refine kz_iload_n (M := kt_M335) kX15_two_c2.2.2.2.1 rfl ?_
        refine kz_bi (M := kt_M335) 60 kX15_two_c2.2.2.2.2.1 rfl ?_
        refine kz_icmp_ne (M := kt_M335) kX15_two_c2.2.2.2.2.2.1 (t := 98) rfl h (fun h => ?_) (fun h => ?_)
        · skip
          refine kz_ic (M := kt_M335) (-1) kX15_two_c3.1 rfl ?_
          exact kz_weak [] trivial rfl (zt_X15_two_p99 hL  h)
        · skip
          refine kz_bi (M := kt_M335) 61 kX15_two_c2.2.2.2.2.2.2.1 rfl ?_
          refine kz_goto (M := kt_M335) kX15_two_c2.2.2.2.2.2.2.2.1 (t := 99) rfl ?_
          exact kz_weak [] trivial rfl (zt_X15_two_p99 hL  h)
      · skip
        refine kz_bi (M := kt_M335) 50 kX15_two_c2.2.1 rfl ?_
        refine kz_goto (M := kt_M335) kX15_two_c2.2.2.1 (t := 99) rfl ?_
        exact kz_weak [] trivial rfl (zt_X15_two_p99 hL  h)
    · skip
      refine kz_bi (M := kt_M335) 48 kX15_two_c1.2.2.2.2.1 rfl ?_
      refine kz_goto (M := kt_M335) kX15_two_c1.2.2.2.2.2.1 (t := 99) rfl ?_
      exact kz_weak [] trivial rfl (zt_X15_two_p99 hL  h)
  · skip
    refine kz_iload_n (M := kt_M335) kX15_two_c3.2.2.1 rfl ?_
    refine kz_bi (M := kt_M335) 61 kX15_two_c3.2.2.2.1 rfl ?_
    refine kz_icmp_ne (M := kt_M335) kX15_two_c3.2.2.2.2.1 (t := 111) rfl h (fun h => ?_) (fun h => ?_)
    · skip
      refine kz_iload_n (M := kt_M335) kX15_two_c3.2.2.2.2.2.2.2.1 rfl ?_
      refine kz_bi (M := kt_M335) 60 kX15_two_c4.1 rfl ?_
      refine kz_icmp_ne (M := kt_M335) kX15_two_c4.2.1 (t := 122) rfl h (fun h => ?_) (fun h => ?_)
      · skip
        refine kz_iload_n (M := kt_M335) kX15_two_c4.2.2.2.2.1 rfl ?_
        refine kz_bi (M := kt_M335) 62 kX15_two_c4.2.2.2.2.2.1 rfl ?_
        refine kz_icmp_ne (M := kt_M335) kX15_two_c4.2.2.2.2.2.2.1 (t := 133) rfl h (fun h => ?_) (fun h => ?_)
        · skip
          refine kz_ic (M := kt_M335) (-1) kX15_two_c5.2.1 rfl ?_
          exact kz_weak [] trivial rfl (zt_X15_two_p134 hL  h)
        · skip
          refine kz_bi (M := kt_M335) 62 kX15_two_c4.2.2.2.2.2.2.2.1 rfl ?_
          refine kz_goto (M := kt_M335) kX15_two_c5.1 (t := 134) rfl ?_
          exact kz_weak [] trivial rfl (zt_X15_two_p134 hL  h)
      · skip
        refine kz_bi (M := kt_M335) 60 kX15_two_c4.2.2.1 rfl ?_
        refine kz_goto (M := kt_M335) kX15_two_c4.2.2.2.1 (t := 134) rfl ?_
        exact kz_weak [] trivial rfl (zt_X15_two_p134 hL  h)
    · skip
      refine kz_bi (M := kt_M335) 52 kX15_two_c3.2.2.2.2.2.1 rfl ?_
      refine kz_goto (M := kt_M335) kX15_two_c3.2.2.2.2.2.2.1 (t := 134) rfl ?_
      exact kz_weak [] trivial rfl (zt_X15_two_p134 hL  h)
  · skip
    refine kz_iload_n (M := kt_M335) kX15_two_c6.2.2.1 rfl ?_
    refine kz_bi (M := kt_M335) 47 kX15_two_c6.2.2.2.1 rfl ?_
    refine kz_icmp_ne (M := kt_M335) kX15_two_c6.2.2.2.2.1 (t := 159) rfl h (fun h => ?_) (fun h => ?_)
    · skip
      refine kz_ic (M := kt_M335) (-1) kX15_two_c6.2.2.2.2.2.2.2.1 rfl ?_
      exact kz_weak [] trivial rfl (zt_X15_two_p160 hL  h)
    · skip
      refine kz_bi (M := kt_M335) 59 kX15_two_c6.2.2.2.2.2.1 rfl ?_
      refine kz_goto (M := kt_M335) kX15_two_c6.2.2.2.2.2.2.1 (t := 160) rfl ?_
      exact kz_weak [] trivial rfl (zt_X15_two_p160 hL  h)
  · skip
    refine kz_ic (M := kt_M335) (-1) kX15_two_c7.2.1 rfl ?_
    exact kz_iret (M := kt_M335) kX15_two_c7.2.2.1 rfl rfl h
def zb_X15_one_p0 (E : zE) (L : Nat) (Q : kx_Rs → wS → Prop) (x0 : Int32) (w : wS) : Prop := (if x0 = 33 then Q (.inl (some (.int 45))) w else (if x0 = 38 then Q (.inl (some (.int 46))) w else (if x0 = 40 then Q (.inl (some (.int 36))) w else (if x0 = 41 then Q (.inl (some (.int 37))) w else (if x0 = 42 then Q (.inl (some (.int 55))) w else (if x0 = 43 then Q (.inl (some (.int 53))) w else (if x0 = 44 then Q (.inl (some (.int 40))) w else (if x0 = 45 then Q (.inl (some (.int 54))) w else (if x0 = 47 then Q (.inl (some (.int 56))) w else (if x0 = 58 then Q (.inl (some (.int 42))) w else (if x0 = 59 then Q (.inl (some (.int 41))) w else (if x0 = 60 then Q (.inl (some (.int 49))) w else (if x0 = 61 then Q (.inl (some (.int 47))) w else (if x0 = 62 then Q (.inl (some (.int 51))) w else (if x0 = 63 then Q (.inl (some (.int 44))) w else (if x0 = 91 then Q (.inl (some (.int 38))) w else (if x0 = 92 then Q (.inl (some (.int 57))) w else (if x0 = 93 then Q (.inl (some (.int 39))) w else (if x0 = 126 then Q (.inl (some (.int 63))) w else Q (.inl (some (.int (-1)))) w)))))))))))))))))))
theorem zt_X15_one_p0 {E : zE} {L : Nat} {Q : kx_Rs → wS → Prop} {x0 : Int32} {w : wS} (hL : 19 ≤ L) (h : zb_X15_one_p0 E L Q x0 w) : kzE E L kt_M334 0 [(0, .int x0)] [] w Q := by
  unfold zb_X15_one_p0 at h
  refine kz_iload_n (M := kt_M334) kX15_one_c0.1 rfl ?_
  refine kz_lsw (M := kt_M334) [(33, 188), (38, 191), (40, 164), (41, 167), (42, 209), (43, 203), (44, 176), (45, 206), (47, 212), (58, 182), (59, 179), (60, 197), (61, 194), (62, 200), (63, 185), (91, 170), (92, 215), (93, 173), (126, 218)] [_, _, _, _, _, _, _, _, _, _, _, _, _, _, _, _, _, _, _] 221 dX15_one_p1 (by decide +kernel) (by decide +kernel) h ⟨fun h => ?_, fun h => ?_, fun h => ?_, fun h => ?_, fun h => ?_, fun h => ?_, fun h => ?_, fun h => ?_, fun h => ?_, fun h => ?_, fun h => ?_, fun h => ?_, fun h => ?_, fun h => ?_, fun h => ?_, fun h => ?_, fun h => ?_, fun h => ?_, fun h => ?_, trivial⟩ (fun h => ?_)
  · skip
    refine kz_bi (M := kt_M334) 45 kX15_one_c2.2.2.1 rfl ?_
    exact kz_iret (M := kt_M334) kX15_one_c2.2.2.2.1 rfl rfl h
  · skip
    refine kz_bi (M := kt_M334) 46 kX15_one_c2.2.2.2.2.1 rfl ?_
    exact kz_iret (M := kt_M334) kX15_one_c2.2.2.2.2.2.1 rfl rfl h
  · skip
    refine kz_bi (M := kt_M334) 36 kX15_one_c0.2.2.1 rfl ?_
    exact kz_iret (M := kt_M334) kX15_one_c0.2.2.2.1 rfl rfl h
  · skip
    refine kz_bi (M := kt_M334) 37 kX15_one_c0.2.2.2.2.1 rfl ?_
    exact kz_iret (M := kt_M334) kX15_one_c0.2.2.2.2.2.1 rfl rfl h
  · skip
    refine kz_bi (M := kt_M334) 55 kX15_one_c4.1 rfl ?_
    exact kz_iret (M := kt_M334) kX15_one_c4.2.1 rfl rfl h
  · skip
    refine kz_bi (M := kt_M334) 53 kX15_one_c3.2.2.2.2.1 rfl ?_
    exact kz_iret (M := kt_M334) kX15_one_c3.2.2.2.2.2.1 rfl rfl h
  · skip
    refine kz_bi (M := kt_M334) 40 kX15_one_c1.2.2.1 rfl ?_
    exact kz_iret (M := kt_M334) kX15_one_c1.2.2.2.1 rfl rfl h
  · skip
    refine kz_bi (M := kt_M334) 54 kX15_one_c3.2.2.2.2.2.2.1 rfl ?_
    exact kz_iret (M := kt_M334) kX15_one_c3.2.2.2.2.2.2.2.1 rfl rfl h
  · skip
    refine kz_bi (M := kt_M334) 56 kX15_one_c4.2.2.1 rfl ?_
    exact kz_iret (M := kt_M334) kX15_one_c4.2.2.2.1 rfl rfl h
  · skip
    refine kz_bi (M := kt_M334) 42 kX15_one_c1.2.2.2.2.2.2.1 rfl ?_
    exact kz_iret (M := kt_M334) kX15_one_c1.2.2.2.2.2.2.2.1 rfl rfl h
  · skip
    refine kz_bi (M := kt_M334) 41 kX15_one_c1.2.2.2.2.1 rfl ?_
    exact kz_iret (M := kt_M334) kX15_one_c1.2.2.2.2.2.1 rfl rfl h
  · skip
    refine kz_bi (M := kt_M334) 49 kX15_one_c3.1 rfl ?_
    exact kz_iret (M := kt_M334) kX15_one_c3.2.1 rfl rfl h
  · skip
    refine kz_bi (M := kt_M334) 47 kX15_one_c2.2.2.2.2.2.2.1 rfl ?_
    exact kz_iret (M := kt_M334) kX15_one_c2.2.2.2.2.2.2.2.1 rfl rfl h
  · skip
    refine kz_bi (M := kt_M334) 51 kX15_one_c3.2.2.1 rfl ?_
    exact kz_iret (M := kt_M334) kX15_one_c3.2.2.2.1 rfl rfl h
  · skip
    refine kz_bi (M := kt_M334) 44 kX15_one_c2.1 rfl ?_
    exact kz_iret (M := kt_M334) kX15_one_c2.2.1 rfl rfl h
  · skip
    refine kz_bi (M := kt_M334) 38 kX15_one_c0.2.2.2.2.2.2.1 rfl ?_
    exact kz_iret (M := kt_M334) kX15_one_c0.2.2.2.2.2.2.2.1 rfl rfl h
  · skip
    refine kz_bi (M := kt_M334) 57 kX15_one_c4.2.2.2.2.1 rfl ?_
    exact kz_iret (M := kt_M334) kX15_one_c4.2.2.2.2.2.1 rfl rfl h
  · skip
    refine kz_bi (M := kt_M334) 39 kX15_one_c1.1 rfl ?_
    exact kz_iret (M := kt_M334) kX15_one_c1.2.1 rfl rfl h
  · skip
    refine kz_bi (M := kt_M334) 63 kX15_one_c4.2.2.2.2.2.2.1 rfl ?_
    exact kz_iret (M := kt_M334) kX15_one_c4.2.2.2.2.2.2.2.1 rfl rfl h
  · skip
    refine kz_ic (M := kt_M334) (-1) kX15_one_c5.1 rfl ?_
    exact kz_iret (M := kt_M334) kX15_one_c5.2.1 rfl rfl h
def zb_X15_isType_p21 (E : zE) (L : Nat) (Q : kx_Rs → wS → Prop) (y0 : Int32) (w : wS) : Prop := ((y0 = 0 ∨ y0 = 1) ∧ Q (.inl (some (.int y0))) w)
theorem zt_X15_isType_p21 {E : zE} {L : Nat} {Q : kx_Rs → wS → Prop} {y0 : Int32} {w : wS} (hL : 19 ≤ L) (h : zb_X15_isType_p21 E L Q y0 w) : kzE E L kt_M333 21 [] [.int y0] w Q := by
  unfold zb_X15_isType_p21 at h
  exact kz_iretz (M := kt_M333) kX15_isType_c1.2.2.2.2.1 rfl h.1 h.2
def zb_X15_isType_p16 (E : zE) (L : Nat) (Q : kx_Rs → wS → Prop) (w : wS) : Prop := zb_X15_isType_p21 E L Q 1 w
theorem zt_X15_isType_p16 {E : zE} {L : Nat} {Q : kx_Rs → wS → Prop} {w : wS} (hL : 19 ≤ L) (h : zb_X15_isType_p16 E L Q  w) : kzE E L kt_M333 16 [] [] w Q := by
  unfold zb_X15_isType_p16 at h
  refine kz_ic (M := kt_M333) 1 kX15_isType_c1.2.1 rfl ?_
  refine kz_goto (M := kt_M333) kX15_isType_c1.2.2.1 (t := 21) rfl ?_
  exact kz_weak [] trivial rfl (zt_X15_isType_p21 hL  h)
def zb_X15_isType_p0 (E : zE) (L : Nat) (Q : kx_Rs → wS → Prop) (x0 : Int32) (w : wS) : Prop := (if x0 = 12 then zb_X15_isType_p16 E L Q w else (if x0 = 4 then zb_X15_isType_p16 E L Q w else (if ¬ x0 = 3 then zb_X15_isType_p21 E L Q 0 w else zb_X15_isType_p16 E L Q w)))
theorem zt_X15_isType_p0 {E : zE} {L : Nat} {Q : kx_Rs → wS → Prop} {x0 : Int32} {w : wS} (hL : 19 ≤ L) (h : zb_X15_isType_p0 E L Q x0 w) : kzE E L kt_M333 0 [(0, .int x0)] [] w Q := by
  unfold zb_X15_isType_p0 at h
  refine kz_iload_n (M := kt_M333) kX15_isType_c0.1 rfl ?_
  refine kz_bi (M := kt_M333) 12 kX15_isType_c0.2.1 rfl ?_
  refine kz_icmp_eq (M := kt_M333) kX15_isType_c0.2.2.1 (t := 16) rfl h (fun h => ?_) (fun h => ?_)
  · skip
    exact kz_weak [] trivial rfl (zt_X15_isType_p16 hL  h)
  · skip
    refine kz_iload_n (M := kt_M333) kX15_isType_c0.2.2.2.1 rfl ?_
    refine kz_ic (M := kt_M333) 4 kX15_isType_c0.2.2.2.2.1 rfl ?_
    refine kz_icmp_eq (M := kt_M333) kX15_isType_c0.2.2.2.2.2.1 (t := 16) rfl h (fun h => ?_) (fun h => ?_)
    · skip
      exact kz_weak [] trivial rfl (zt_X15_isType_p16 hL  h)
    · skip
      refine kz_iload_n (M := kt_M333) kX15_isType_c0.2.2.2.2.2.2.1 rfl ?_
      refine kz_ic (M := kt_M333) 3 kX15_isType_c0.2.2.2.2.2.2.2.1 rfl ?_
      refine kz_icmp_ne (M := kt_M333) kX15_isType_c1.1 (t := 20) rfl h (fun h => ?_) (fun h => ?_)
      · skip
        refine kz_ic (M := kt_M333) 0 kX15_isType_c1.2.2.2.1 rfl ?_
        exact kz_weak [] trivial rfl (zt_X15_isType_p21 hL  h)
      · skip
        exact kz_weak [] trivial rfl (zt_X15_isType_p16 hL  h)
def zb_X16_init_p0 (E : zE) (L : Nat) (Q : kx_Rs → wS → Prop) (x0 : Nat) (w : wS) : Prop := Q (.inl none) w
theorem zt_X16_init_p0 {E : zE} {L : Nat} {Q : kx_Rs → wS → Prop} {x0 : Nat} {w : wS} (hL : 30 ≤ L) (hl0 : w_l w E.2.1 14 x0) (h : zb_X16_init_p0 E L Q x0 w) : kzE E L kt_M157 0 [(0, .ref (w_adr E.2.1 14 x0))] [] w Q := by
  unfold zb_X16_init_p0 at h
  refine kz_aload_n (M := kt_M157) kX16_init_c0.1 rfl ?_
  refine kz_oinit (M := kt_M157) kX16_init_c0.2.1 zoi_X16_3 (Nat.le_trans (by simp [kx_cat, w_cat, z_ci, z_cr, z_cl, z_cn]) hL) ?_
  exact kz_ret (M := kt_M157) kX16_init_c0.2.2.1 rfl h
def zb_X17_init_p0 (E : zE) (L : Nat) (Q : kx_Rs → wS → Prop) (x0 : Nat) (w : wS) : Prop := Q (.inl none) w
theorem zt_X17_init_p0 {E : zE} {L : Nat} {Q : kx_Rs → wS → Prop} {x0 : Nat} {w : wS} (hL : 30 ≤ L) (hl0 : w_l w E.2.1 15 x0) (h : zb_X17_init_p0 E L Q x0 w) : kzE E L kt_M228 0 [(0, .ref (w_adr E.2.1 15 x0))] [] w Q := by
  unfold zb_X17_init_p0 at h
  refine kz_aload_n (M := kt_M228) kX17_init_c0.1 rfl ?_
  refine kz_oinit (M := kt_M228) kX17_init_c0.2.1 zoi_X17_3 (Nat.le_trans (by simp [kx_cat, w_cat, z_ci, z_cr, z_cl, z_cn]) hL) ?_
  exact kz_ret (M := kt_M228) kX17_init_c0.2.2.1 rfl h
def zb_X18_fault_p140 (E : zE) (L : Nat) (Q : kx_Rs → wS → Prop) (y0 : Int32) (w : wS) : Prop := Q (.inl (some (.int y0))) w
theorem zt_X18_fault_p140 {E : zE} {L : Nat} {Q : kx_Rs → wS → Prop} {y0 : Int32} {w : wS} (hL : 19 ≤ L) (h : zb_X18_fault_p140 E L Q y0 w) : kzE E L kt_M216 140 [] [.int y0] w Q := by
  unfold zb_X18_fault_p140 at h
  exact kz_iret (M := kt_M216) kX18_fault_c7.2.2.2.2.1 rfl rfl h
def zb_X18_fault_p127 (E : zE) (L : Nat) (Q : kx_Rs → wS → Prop) (x3 : Int64) (w : wS) : Prop := (if ¬ (lg_cmp x3 (((x3).toInt32).toInt64)) = 0 then zb_X18_fault_p140 E L Q 1 w else zb_X18_fault_p140 E L Q 0 w)
theorem zt_X18_fault_p127 {E : zE} {L : Nat} {Q : kx_Rs → wS → Prop} {x3 : Int64} {w : wS} (hL : 19 ≤ L) (h : zb_X18_fault_p127 E L Q x3 w) : kzE E L kt_M216 127 [(3, .long (x3))] [] w Q := by
  unfold zb_X18_fault_p127 at h
  refine kz_lload_n (M := kt_M216) kX18_fault_c6.2.2.2.1 rfl ?_
  refine kz_lload_n (M := kt_M216) kX18_fault_c6.2.2.2.2.1 rfl ?_
  refine kz_l2i (M := kt_M216) kX18_fault_c6.2.2.2.2.2.1 ?_
  refine kz_i2l (M := kt_M216) kX18_fault_c6.2.2.2.2.2.2.1 ?_
  refine kz_lcmp (M := kt_M216) kX18_fault_c6.2.2.2.2.2.2.2.1 ?_
  refine kz_if_ne (M := kt_M216) kX18_fault_c7.1 (t := 139) rfl h (fun h => ?_) (fun h => ?_)
  · skip
    refine kz_ic (M := kt_M216) 1 kX18_fault_c7.2.2.2.1 rfl ?_
    exact kz_weak [] trivial rfl (zt_X18_fault_p140 hL  h)
  · skip
    refine kz_ic (M := kt_M216) 0 kX18_fault_c7.2.1 rfl ?_
    refine kz_goto (M := kt_M216) kX18_fault_c7.2.2.1 (t := 140) rfl ?_
    exact kz_weak [] trivial rfl (zt_X18_fault_p140 hL  h)
def zb_X18_fault_p124 (E : zE) (L : Nat) (Q : kx_Rs → wS → Prop) (y0 : Int32) (w : wS) : Prop := Q (.inl (some (.int y0))) w
theorem zt_X18_fault_p124 {E : zE} {L : Nat} {Q : kx_Rs → wS → Prop} {y0 : Int32} {w : wS} (hL : 19 ≤ L) (h : zb_X18_fault_p124 E L Q y0 w) : kzE E L kt_M216 124 [] [.int y0] w Q := by
  unfold zb_X18_fault_p124 at h
  exact kz_iret (M := kt_M216) kX18_fault_c6.1 rfl rfl h
def zb_X18_fault_p118 (E : zE) (L : Nat) (Q : kx_Rs → wS → Prop) (w : wS) : Prop := zb_X18_fault_p124 E L Q 8 w
theorem zt_X18_fault_p118 {E : zE} {L : Nat} {Q : kx_Rs → wS → Prop} {w : wS} (hL : 19 ≤ L) (h : zb_X18_fault_p118 E L Q  w) : kzE E L kt_M216 118 [] [] w Q := by
  unfold zb_X18_fault_p118 at h
  refine kz_bi (M := kt_M216) 8 kX18_fault_c5.2.2.2.2.2.1 rfl ?_
  refine kz_goto (M := kt_M216) kX18_fault_c5.2.2.2.2.2.2.1 (t := 124) rfl ?_
  exact kz_weak [] trivial rfl (zt_X18_fault_p124 hL  h)
def zb_X18_fault_p107 (E : zE) (L : Nat) (Q : kx_Rs → wS → Prop) (y0 : Int32) (w : wS) : Prop := Q (.inl (some (.int y0))) w
theorem zt_X18_fault_p107 {E : zE} {L : Nat} {Q : kx_Rs → wS → Prop} {y0 : Int32} {w : wS} (hL : 19 ≤ L) (h : zb_X18_fault_p107 E L Q y0 w) : kzE E L kt_M216 107 [] [.int y0] w Q := by
  unfold zb_X18_fault_p107 at h
  exact kz_iret (M := kt_M216) kX18_fault_c4.2.2.2.2.2.2.2.1 rfl rfl h
def zb_X18_fault_p0 (E : zE) (L : Nat) (Q : kx_Rs → wS → Prop) (x0 : Int32) (x1 : Int32) (x2 : Int32) (w : wS) : Prop := (if x0 = 53 then zb_X18_fault_p127 E L Q (((x1).toInt64) + ((x2).toInt64)) w else (if x0 = 54 then zb_X18_fault_p127 E L Q (((x1).toInt64) - ((x2).toInt64)) w else (if x0 = 55 then zb_X18_fault_p127 E L Q (((x1).toInt64) * ((x2).toInt64)) w else (if x0 = 56 then (if ¬ x2 = 0 then (¬ ((x2).toInt64) = 0 ∧ zb_X18_fault_p127 E L Q (((x1).toInt64) / ((x2).toInt64)) w) else Q (.inl (some (.int 2))) w) else (if x0 = 57 then (if ¬ x2 = 0 then zb_X18_fault_p107 E L Q 0 w else zb_X18_fault_p107 E L Q 2 w) else (if x0 = 61 then (if x2 < 0 then zb_X18_fault_p118 E L Q w else (if x2 ≤ 32 then zb_X18_fault_p124 E L Q 0 w else zb_X18_fault_p118 E L Q w)) else (if x0 = 62 then (if x2 < 0 then zb_X18_fault_p118 E L Q w else (if x2 ≤ 32 then zb_X18_fault_p124 E L Q 0 w else zb_X18_fault_p118 E L Q w)) else Q (.inl (some (.int 0))) w)))))))
theorem zt_X18_fault_p0 {E : zE} {L : Nat} {Q : kx_Rs → wS → Prop} {x0 : Int32} {x1 : Int32} {x2 : Int32} {w : wS} (hL : 19 ≤ L) (h : zb_X18_fault_p0 E L Q x0 x1 x2 w) : kzE E L kt_M216 0 [(0, .int x0), (1, .int x1), (2, .int x2)] [] w Q := by
  unfold zb_X18_fault_p0 at h
  refine kz_iload_n (M := kt_M216) kX18_fault_c0.1 rfl ?_
  refine kz_tsw (M := kt_M216) [(53, 56), (54, 65), (55, 74), (56, 83), (57, 98), (61, 108), (62, 108)] [_, _, _, _, _, _, _] 125 dX18_fault_p1 (by decide +kernel) h ⟨fun h => ?_, fun h => ?_, fun h => ?_, fun h => ?_, fun h => ?_, fun h => ?_, fun h => ?_, trivial⟩ (fun h => ?_)
  · skip
    refine kz_iload_n (M := kt_M216) kX18_fault_c0.2.2.1 rfl ?_
    refine kz_i2l (M := kt_M216) kX18_fault_c0.2.2.2.1 ?_
    refine kz_iload_n (M := kt_M216) kX18_fault_c0.2.2.2.2.1 rfl ?_
    refine kz_i2l (M := kt_M216) kX18_fault_c0.2.2.2.2.2.1 ?_
    refine kz_ladd (M := kt_M216) kX18_fault_c0.2.2.2.2.2.2.1 ?_
    refine kz_stl_n (M := kt_M216) [] kX18_fault_c0.2.2.2.2.2.2.2.1 (Nat.le_of_ble_eq_true rfl) trivial rfl rfl ?_
    refine kz_goto (M := kt_M216) kX18_fault_c1.1 (t := 127) rfl ?_
    exact kz_weak [(3, .long ((((x1).toInt64) + ((x2).toInt64))))] ⟨rfl, trivial⟩ rfl (zt_X18_fault_p127 hL  h)
  · skip
    refine kz_iload_n (M := kt_M216) kX18_fault_c1.2.1 rfl ?_
    refine kz_i2l (M := kt_M216) kX18_fault_c1.2.2.1 ?_
    refine kz_iload_n (M := kt_M216) kX18_fault_c1.2.2.2.1 rfl ?_
    refine kz_i2l (M := kt_M216) kX18_fault_c1.2.2.2.2.1 ?_
    refine kz_lsub (M := kt_M216) kX18_fault_c1.2.2.2.2.2.1 ?_
    refine kz_stl_n (M := kt_M216) [] kX18_fault_c1.2.2.2.2.2.2.1 (Nat.le_of_ble_eq_true rfl) trivial rfl rfl ?_
    refine kz_goto (M := kt_M216) kX18_fault_c1.2.2.2.2.2.2.2.1 (t := 127) rfl ?_
    exact kz_weak [(3, .long ((((x1).toInt64) - ((x2).toInt64))))] ⟨rfl, trivial⟩ rfl (zt_X18_fault_p127 hL  h)
  · skip
    refine kz_iload_n (M := kt_M216) kX18_fault_c2.1 rfl ?_
    refine kz_i2l (M := kt_M216) kX18_fault_c2.2.1 ?_
    refine kz_iload_n (M := kt_M216) kX18_fault_c2.2.2.1 rfl ?_
    refine kz_i2l (M := kt_M216) kX18_fault_c2.2.2.2.1 ?_
    refine kz_lmul (M := kt_M216) kX18_fault_c2.2.2.2.2.1 ?_
    refine kz_stl_n (M := kt_M216) [] kX18_fault_c2.2.2.2.2.2.1 (Nat.le_of_ble_eq_true rfl) trivial rfl rfl ?_
    refine kz_goto (M := kt_M216) kX18_fault_c2.2.2.2.2.2.2.1 (t := 127) rfl ?_
    exact kz_weak [(3, .long ((((x1).toInt64) * ((x2).toInt64))))] ⟨rfl, trivial⟩ rfl (zt_X18_fault_p127 hL  h)
  · skip
    refine kz_iload_n (M := kt_M216) kX18_fault_c2.2.2.2.2.2.2.2.1 rfl ?_
    refine kz_if_ne (M := kt_M216) kX18_fault_c3.1 (t := 89) rfl h (fun h => ?_) (fun h => ?_)
    · skip
      refine kz_iload_n (M := kt_M216) kX18_fault_c3.2.2.2.1 rfl ?_
      refine kz_i2l (M := kt_M216) kX18_fault_c3.2.2.2.2.1 ?_
      refine kz_iload_n (M := kt_M216) kX18_fault_c3.2.2.2.2.2.1 rfl ?_
      refine kz_i2l (M := kt_M216) kX18_fault_c3.2.2.2.2.2.2.1 ?_
      obtain ⟨h0, h⟩ := h
      refine kz_ldiv (M := kt_M216) kX18_fault_c3.2.2.2.2.2.2.2.1 h0 ?_
      refine kz_stl_n (M := kt_M216) [] kX18_fault_c4.1 (Nat.le_of_ble_eq_true rfl) trivial rfl rfl ?_
      refine kz_goto (M := kt_M216) kX18_fault_c4.2.1 (t := 127) rfl ?_
      exact kz_weak [(3, .long ((((x1).toInt64) / ((x2).toInt64))))] ⟨rfl, trivial⟩ rfl (zt_X18_fault_p127 hL  h)
    · skip
      refine kz_ic (M := kt_M216) 2 kX18_fault_c3.2.1 rfl ?_
      exact kz_iret (M := kt_M216) kX18_fault_c3.2.2.1 rfl rfl h
  · skip
    refine kz_iload_n (M := kt_M216) kX18_fault_c4.2.2.1 rfl ?_
    refine kz_if_ne (M := kt_M216) kX18_fault_c4.2.2.2.1 (t := 106) rfl h (fun h => ?_) (fun h => ?_)
    · skip
      refine kz_ic (M := kt_M216) 0 kX18_fault_c4.2.2.2.2.2.2.1 rfl ?_
      exact kz_weak [] trivial rfl (zt_X18_fault_p107 hL  h)
    · skip
      refine kz_ic (M := kt_M216) 2 kX18_fault_c4.2.2.2.2.1 rfl ?_
      refine kz_goto (M := kt_M216) kX18_fault_c4.2.2.2.2.2.1 (t := 107) rfl ?_
      exact kz_weak [] trivial rfl (zt_X18_fault_p107 hL  h)
  · skip
    refine kz_iload_n (M := kt_M216) kX18_fault_c5.1 rfl ?_
    refine kz_if_lt (M := kt_M216) kX18_fault_c5.2.1 (t := 118) rfl h (fun h => ?_) (fun h => ?_)
    · skip
      exact kz_weak [] trivial rfl (zt_X18_fault_p118 hL  h)
    · skip
      refine kz_iload_n (M := kt_M216) kX18_fault_c5.2.2.1 rfl ?_
      refine kz_bi (M := kt_M216) 32 kX18_fault_c5.2.2.2.1 rfl ?_
      refine kz_icmp_le (M := kt_M216) kX18_fault_c5.2.2.2.2.1 (t := 123) rfl h (fun h => ?_) (fun h => ?_)
      · skip
        refine kz_ic (M := kt_M216) 0 kX18_fault_c5.2.2.2.2.2.2.2.1 rfl ?_
        exact kz_weak [] trivial rfl (zt_X18_fault_p124 hL  h)
      · skip
        exact kz_weak [] trivial rfl (zt_X18_fault_p118 hL  h)
  · skip
    refine kz_iload_n (M := kt_M216) kX18_fault_c5.1 rfl ?_
    refine kz_if_lt (M := kt_M216) kX18_fault_c5.2.1 (t := 118) rfl h (fun h => ?_) (fun h => ?_)
    · skip
      exact kz_weak [] trivial rfl (zt_X18_fault_p118 hL  h)
    · skip
      refine kz_iload_n (M := kt_M216) kX18_fault_c5.2.2.1 rfl ?_
      refine kz_bi (M := kt_M216) 32 kX18_fault_c5.2.2.2.1 rfl ?_
      refine kz_icmp_le (M := kt_M216) kX18_fault_c5.2.2.2.2.1 (t := 123) rfl h (fun h => ?_) (fun h => ?_)
      · skip
        refine kz_ic (M := kt_M216) 0 kX18_fault_c5.2.2.2.2.2.2.2.1 rfl ?_
        exact kz_weak [] trivial rfl (zt_X18_fault_p124 hL  h)
      · skip
        exact kz_weak [] trivial rfl (zt_X18_fault_p118 hL  h)
  · skip
    refine kz_ic (M := kt_M216) 0 kX18_fault_c6.2.1 rfl ?_
    exact kz_iret (M := kt_M216) kX18_fault_c6.2.2.1 rfl rfl h
def zb_X18_two_p358 (E : zE) (L : Nat) (Q : kx_Rs → wS → Prop) (y0 : Int32) (w : wS) : Prop := Q (.inl (some (.int y0))) w
theorem zt_X18_two_p358 {E : zE} {L : Nat} {Q : kx_Rs → wS → Prop} {y0 : Int32} {w : wS} (hL : 19 ≤ L) (h : zb_X18_two_p358 E L Q y0 w) : kzE E L kt_M217 358 [] [.int y0] w Q := by
  unfold zb_X18_two_p358 at h
  exact kz_iret (M := kt_M217) kX18_two_c13.2.2.1 rfl rfl h
def zb_X18_two_p346 (E : zE) (L : Nat) (Q : kx_Rs → wS → Prop) (y0 : Int32) (w : wS) : Prop := Q (.inl (some (.int y0))) w
theorem zt_X18_two_p346 {E : zE} {L : Nat} {Q : kx_Rs → wS → Prop} {y0 : Int32} {w : wS} (hL : 19 ≤ L) (h : zb_X18_two_p346 E L Q y0 w) : kzE E L kt_M217 346 [] [.int y0] w Q := by
  unfold zb_X18_two_p346 at h
  exact kz_iret (M := kt_M217) kX18_two_c12.2.2.1 rfl rfl h
def zb_X18_two_p335 (E : zE) (L : Nat) (Q : kx_Rs → wS → Prop) (y0 : Int32) (w : wS) : Prop := Q (.inl (some (.int y0))) w
theorem zt_X18_two_p335 {E : zE} {L : Nat} {Q : kx_Rs → wS → Prop} {y0 : Int32} {w : wS} (hL : 19 ≤ L) (h : zb_X18_two_p335 E L Q y0 w) : kzE E L kt_M217 335 [] [.int y0] w Q := by
  unfold zb_X18_two_p335 at h
  exact kz_iret (M := kt_M217) kX18_two_c11.2.2.2.1 rfl rfl h
def zb_X18_two_p324 (E : zE) (L : Nat) (Q : kx_Rs → wS → Prop) (y0 : Int32) (w : wS) : Prop := Q (.inl (some (.int y0))) w
theorem zt_X18_two_p324 {E : zE} {L : Nat} {Q : kx_Rs → wS → Prop} {y0 : Int32} {w : wS} (hL : 19 ≤ L) (h : zb_X18_two_p324 E L Q y0 w) : kzE E L kt_M217 324 [] [.int y0] w Q := by
  unfold zb_X18_two_p324 at h
  exact kz_iret (M := kt_M217) kX18_two_c10.2.2.2.2.1 rfl rfl h
def zb_X18_two_p313 (E : zE) (L : Nat) (Q : kx_Rs → wS → Prop) (y0 : Int32) (w : wS) : Prop := Q (.inl (some (.int y0))) w
theorem zt_X18_two_p313 {E : zE} {L : Nat} {Q : kx_Rs → wS → Prop} {y0 : Int32} {w : wS} (hL : 19 ≤ L) (h : zb_X18_two_p313 E L Q y0 w) : kzE E L kt_M217 313 [] [.int y0] w Q := by
  unfold zb_X18_two_p313 at h
  exact kz_iret (M := kt_M217) kX18_two_c9.2.2.2.2.2.1 rfl rfl h
def zb_X18_two_p302 (E : zE) (L : Nat) (Q : kx_Rs → wS → Prop) (y0 : Int32) (w : wS) : Prop := Q (.inl (some (.int y0))) w
theorem zt_X18_two_p302 {E : zE} {L : Nat} {Q : kx_Rs → wS → Prop} {y0 : Int32} {w : wS} (hL : 19 ≤ L) (h : zb_X18_two_p302 E L Q y0 w) : kzE E L kt_M217 302 [] [.int y0] w Q := by
  unfold zb_X18_two_p302 at h
  exact kz_iret (M := kt_M217) kX18_two_c8.2.2.2.2.2.2.1 rfl rfl h
def zb_X18_two_p291 (E : zE) (L : Nat) (Q : kx_Rs → wS → Prop) (y0 : Int32) (w : wS) : Prop := Q (.inl (some (.int y0))) w
theorem zt_X18_two_p291 {E : zE} {L : Nat} {Q : kx_Rs → wS → Prop} {y0 : Int32} {w : wS} (hL : 19 ≤ L) (h : zb_X18_two_p291 E L Q y0 w) : kzE E L kt_M217 291 [] [.int y0] w Q := by
  unfold zb_X18_two_p291 at h
  exact kz_iret (M := kt_M217) kX18_two_c7.2.2.2.2.2.2.2.1 rfl rfl h
def zb_X18_two_p280 (E : zE) (L : Nat) (Q : kx_Rs → wS → Prop) (y0 : Int32) (w : wS) : Prop := Q (.inl (some (.int y0))) w
theorem zt_X18_two_p280 {E : zE} {L : Nat} {Q : kx_Rs → wS → Prop} {y0 : Int32} {w : wS} (hL : 19 ≤ L) (h : zb_X18_two_p280 E L Q y0 w) : kzE E L kt_M217 280 [] [.int y0] w Q := by
  unfold zb_X18_two_p280 at h
  exact kz_iret (M := kt_M217) kX18_two_c7.1 rfl rfl h
def zb_X18_two_p266 (E : zE) (L : Nat) (Q : kx_Rs → wS → Prop) (y0 : Int32) (w : wS) : Prop := Q (.inl (some (.int y0))) w
theorem zt_X18_two_p266 {E : zE} {L : Nat} {Q : kx_Rs → wS → Prop} {y0 : Int32} {w : wS} (hL : 19 ≤ L) (h : zb_X18_two_p266 E L Q y0 w) : kzE E L kt_M217 266 [] [.int y0] w Q := by
  unfold zb_X18_two_p266 at h
  exact kz_iret (M := kt_M217) kX18_two_c5.2.2.2.2.2.2.2.1 rfl rfl h
def zb_X18_two_p240 (E : zE) (L : Nat) (Q : kx_Rs → wS → Prop) (y0 : Int32) (w : wS) : Prop := Q (.inl (some (.int y0))) w
theorem zt_X18_two_p240 {E : zE} {L : Nat} {Q : kx_Rs → wS → Prop} {y0 : Int32} {w : wS} (hL : 19 ≤ L) (h : zb_X18_two_p240 E L Q y0 w) : kzE E L kt_M217 240 [] [.int y0] w Q := by
  unfold zb_X18_two_p240 at h
  exact kz_iret (M := kt_M217) kX18_two_c3.2.2.1 rfl rfl h
def zb_X18_two_p0 (E : zE) (L : Nat) (Q : kx_Rs → wS → Prop) (x0 : Int32) (x1 : Int32) (x2 : Int32) (w : wS) : Prop := (if x0 = 14 then Q (.inl (some (.int (x1 - x2)))) w else (if x0 = 21 then Q (.inl (some (.int (x1 + x2)))) w else (if x0 = 31 then Q (.inl (some (.int (x1 * x2)))) w else (if x0 = 47 then (if ¬ x1 = x2 then zb_X18_two_p291 E L Q 0 w else zb_X18_two_p291 E L Q 1 w) else (if x0 = 48 then (if x1 = x2 then zb_X18_two_p302 E L Q 0 w else zb_X18_two_p302 E L Q 1 w) else (if x0 = 49 then (if x2 ≤ x1 then zb_X18_two_p313 E L Q 0 w else zb_X18_two_p313 E L Q 1 w) else (if x0 = 50 then (if x2 < x1 then zb_X18_two_p324 E L Q 0 w else zb_X18_two_p324 E L Q 1 w) else (if x0 = 51 then (if x1 ≤ x2 then zb_X18_two_p335 E L Q 0 w else zb_X18_two_p335 E L Q 1 w) else (if x0 = 52 then (if x1 < x2 then zb_X18_two_p346 E L Q 0 w else zb_X18_two_p346 E L Q 1 w) else (if x0 = 53 then Q (.inl (some (.int (x1 + x2)))) w else (if x0 = 54 then Q (.inl (some (.int (x1 - x2)))) w else (if x0 = 55 then Q (.inl (some (.int (x1 * x2)))) w else (if x0 = 56 then (¬ x2 = 0 ∧ Q (.inl (some (.int (x1 / x2)))) w) else (if x0 = 57 then (if ¬ x2 = (-1) then (¬ x2 = 0 ∧ zb_X18_two_p240 E L Q (x1 - x1 / x2 * x2) w) else zb_X18_two_p240 E L Q 0 w) else (if x0 = 58 then Q (.inl (some (.int (x1 &&& x2)))) w else (if x0 = 59 then Q (.inl (some (.int (x1 ||| x2)))) w else (if x0 = 60 then Q (.inl (some (.int (x1 ^^^ x2)))) w else (if x0 = 61 then (if ¬ x2 = 32 then zb_X18_two_p266 E L Q (x1 <<< (x2 &&& 31)) w else zb_X18_two_p266 E L Q 0 w) else (if x0 = 62 then (if ¬ x2 = 32 then zb_X18_two_p280 E L Q (((x1).toUInt32 >>> ((x2).toUInt32 &&& Int32.toUInt32 31)).toInt32) w else zb_X18_two_p280 E L Q 0 w) else (if (x1 - x2) ≤ 0 then zb_X18_two_p358 E L Q 0 w else zb_X18_two_p358 E L Q 1 w))))))))))))))))))))
theorem zt_X18_two_p0 {E : zE} {L : Nat} {Q : kx_Rs → wS → Prop} {x0 : Int32} {x1 : Int32} {x2 : Int32} {w : wS} (hL : 19 ≤ L) (h : zb_X18_two_p0 E L Q x0 x1 x2 w) : kzE E L kt_M217 0 [(0, .int x0), (1, .int x1), (2, .int x2)] [] w Q := by
  unfold zb_X18_two_p0 at h
  refine kz_iload_n (M := kt_M217) kX18_two_c0.1 rfl ?_
  refine kz_tsw (M := kt_M217) [(14, 216), (21, 212), (31, 220), (47, 281), (48, 292), (49, 303), (50, 314), (51, 325), (52, 336), (53, 212), (54, 216), (55, 220), (56, 224), (57, 228), (58, 241), (59, 245), (60, 249), (61, 253), (62, 267)] [_, _, _, _, _, _, _, _, _, _, _, _, _, _, _, _, _, _, _] 347 dX18_two_p1 (by decide +kernel) h ⟨fun h => ?_, fun h => ?_, fun h => ?_, fun h => ?_, fun h => ?_, fun h => ?_, fun h => ?_, fun h => ?_, fun h => ?_, fun h => ?_, fun h => ?_, fun h => ?_, fun h => ?_, fun h => ?_, fun h => ?_, fun h => ?_, fun h => ?_, fun h => ?_, fun h => ?_, trivial⟩ (fun h => ?_)
  · skip
    refine kz_iload_n (M := kt_M217) kX18_two_c0.2.2.2.2.2.2.1 rfl ?_
    refine kz_iload_n (M := kt_M217) kX18_two_c0.2.2.2.2.2.2.2.1 rfl ?_
    refine kz_isub (M := kt_M217) kX18_two_c1.1 ?_
    exact kz_iret (M := kt_M217) kX18_two_c1.2.1 rfl rfl h
  · skip
    refine kz_iload_n (M := kt_M217) kX18_two_c0.2.2.1 rfl ?_
    refine kz_iload_n (M := kt_M217) kX18_two_c0.2.2.2.1 rfl ?_
    refine kz_iadd (M := kt_M217) kX18_two_c0.2.2.2.2.1 ?_
    exact kz_iret (M := kt_M217) kX18_two_c0.2.2.2.2.2.1 rfl rfl h
  · skip
    refine kz_iload_n (M := kt_M217) kX18_two_c1.2.2.1 rfl ?_
    refine kz_iload_n (M := kt_M217) kX18_two_c1.2.2.2.1 rfl ?_
    refine kz_imul (M := kt_M217) kX18_two_c1.2.2.2.2.1 ?_
    exact kz_iret (M := kt_M217) kX18_two_c1.2.2.2.2.2.1 rfl rfl h
  · skip
    refine kz_iload_n (M := kt_M217) kX18_two_c7.2.1 rfl ?_
    refine kz_iload_n (M := kt_M217) kX18_two_c7.2.2.1 rfl ?_
    refine kz_icmp_ne (M := kt_M217) kX18_two_c7.2.2.2.1 (t := 290) rfl h (fun h => ?_) (fun h => ?_)
    · skip
      refine kz_ic (M := kt_M217) 0 kX18_two_c7.2.2.2.2.2.2.1 rfl ?_
      exact kz_weak [] trivial rfl (zt_X18_two_p291 hL  h)
    · skip
      refine kz_ic (M := kt_M217) 1 kX18_two_c7.2.2.2.2.1 rfl ?_
      refine kz_goto (M := kt_M217) kX18_two_c7.2.2.2.2.2.1 (t := 291) rfl ?_
      exact kz_weak [] trivial rfl (zt_X18_two_p291 hL  h)
  · skip
    refine kz_iload_n (M := kt_M217) kX18_two_c8.1 rfl ?_
    refine kz_iload_n (M := kt_M217) kX18_two_c8.2.1 rfl ?_
    refine kz_icmp_eq (M := kt_M217) kX18_two_c8.2.2.1 (t := 301) rfl h (fun h => ?_) (fun h => ?_)
    · skip
      refine kz_ic (M := kt_M217) 0 kX18_two_c8.2.2.2.2.2.1 rfl ?_
      exact kz_weak [] trivial rfl (zt_X18_two_p302 hL  h)
    · skip
      refine kz_ic (M := kt_M217) 1 kX18_two_c8.2.2.2.1 rfl ?_
      refine kz_goto (M := kt_M217) kX18_two_c8.2.2.2.2.1 (t := 302) rfl ?_
      exact kz_weak [] trivial rfl (zt_X18_two_p302 hL  h)
  · skip
    refine kz_iload_n (M := kt_M217) kX18_two_c8.2.2.2.2.2.2.2.1 rfl ?_
    refine kz_iload_n (M := kt_M217) kX18_two_c9.1 rfl ?_
    refine kz_icmp_ge (M := kt_M217) kX18_two_c9.2.1 (t := 312) rfl h (fun h => ?_) (fun h => ?_)
    · skip
      refine kz_ic (M := kt_M217) 0 kX18_two_c9.2.2.2.2.1 rfl ?_
      exact kz_weak [] trivial rfl (zt_X18_two_p313 hL  h)
    · skip
      refine kz_ic (M := kt_M217) 1 kX18_two_c9.2.2.1 rfl ?_
      refine kz_goto (M := kt_M217) kX18_two_c9.2.2.2.1 (t := 313) rfl ?_
      exact kz_weak [] trivial rfl (zt_X18_two_p313 hL  h)
  · skip
    refine kz_iload_n (M := kt_M217) kX18_two_c9.2.2.2.2.2.2.1 rfl ?_
    refine kz_iload_n (M := kt_M217) kX18_two_c9.2.2.2.2.2.2.2.1 rfl ?_
    refine kz_icmp_gt (M := kt_M217) kX18_two_c10.1 (t := 323) rfl h (fun h => ?_) (fun h => ?_)
    · skip
      refine kz_ic (M := kt_M217) 0 kX18_two_c10.2.2.2.1 rfl ?_
      exact kz_weak [] trivial rfl (zt_X18_two_p324 hL  h)
    · skip
      refine kz_ic (M := kt_M217) 1 kX18_two_c10.2.1 rfl ?_
      refine kz_goto (M := kt_M217) kX18_two_c10.2.2.1 (t := 324) rfl ?_
      exact kz_weak [] trivial rfl (zt_X18_two_p324 hL  h)
  · skip
    refine kz_iload_n (M := kt_M217) kX18_two_c10.2.2.2.2.2.1 rfl ?_
    refine kz_iload_n (M := kt_M217) kX18_two_c10.2.2.2.2.2.2.1 rfl ?_
    refine kz_icmp_le (M := kt_M217) kX18_two_c10.2.2.2.2.2.2.2.1 (t := 334) rfl h (fun h => ?_) (fun h => ?_)
    · skip
      refine kz_ic (M := kt_M217) 0 kX18_two_c11.2.2.1 rfl ?_
      exact kz_weak [] trivial rfl (zt_X18_two_p335 hL  h)
    · skip
      refine kz_ic (M := kt_M217) 1 kX18_two_c11.1 rfl ?_
      refine kz_goto (M := kt_M217) kX18_two_c11.2.1 (t := 335) rfl ?_
      exact kz_weak [] trivial rfl (zt_X18_two_p335 hL  h)
  · skip
    refine kz_iload_n (M := kt_M217) kX18_two_c11.2.2.2.2.1 rfl ?_
    refine kz_iload_n (M := kt_M217) kX18_two_c11.2.2.2.2.2.1 rfl ?_
    refine kz_icmp_lt (M := kt_M217) kX18_two_c11.2.2.2.2.2.2.1 (t := 345) rfl h (fun h => ?_) (fun h => ?_)
    · skip
      refine kz_ic (M := kt_M217) 0 kX18_two_c12.2.1 rfl ?_
      exact kz_weak [] trivial rfl (zt_X18_two_p346 hL  h)
    · skip
      refine kz_ic (M := kt_M217) 1 kX18_two_c11.2.2.2.2.2.2.2.1 rfl ?_
      refine kz_goto (M := kt_M217) kX18_two_c12.1 (t := 346) rfl ?_
      exact kz_weak [] trivial rfl (zt_X18_two_p346 hL  h)
  · skip
    refine kz_iload_n (M := kt_M217) kX18_two_c0.2.2.1 rfl ?_
    refine kz_iload_n (M := kt_M217) kX18_two_c0.2.2.2.1 rfl ?_
    refine kz_iadd (M := kt_M217) kX18_two_c0.2.2.2.2.1 ?_
    exact kz_iret (M := kt_M217) kX18_two_c0.2.2.2.2.2.1 rfl rfl h
  · skip
    refine kz_iload_n (M := kt_M217) kX18_two_c0.2.2.2.2.2.2.1 rfl ?_
    refine kz_iload_n (M := kt_M217) kX18_two_c0.2.2.2.2.2.2.2.1 rfl ?_
    refine kz_isub (M := kt_M217) kX18_two_c1.1 ?_
    exact kz_iret (M := kt_M217) kX18_two_c1.2.1 rfl rfl h
  · skip
    refine kz_iload_n (M := kt_M217) kX18_two_c1.2.2.1 rfl ?_
    refine kz_iload_n (M := kt_M217) kX18_two_c1.2.2.2.1 rfl ?_
    refine kz_imul (M := kt_M217) kX18_two_c1.2.2.2.2.1 ?_
    exact kz_iret (M := kt_M217) kX18_two_c1.2.2.2.2.2.1 rfl rfl h
  · skip
    refine kz_iload_n (M := kt_M217) kX18_two_c1.2.2.2.2.2.2.1 rfl ?_
    refine kz_iload_n (M := kt_M217) kX18_two_c1.2.2.2.2.2.2.2.1 rfl ?_
    obtain ⟨h0, h⟩ := h
    refine kz_idiv (M := kt_M217) kX18_two_c2.1 h0 ?_
    exact kz_iret (M := kt_M217) kX18_two_c2.2.1 rfl rfl h
  · skip
    refine kz_iload_n (M := kt_M217) kX18_two_c2.2.2.1 rfl ?_
    refine kz_ic (M := kt_M217) (-1) kX18_two_c2.2.2.2.1 rfl ?_
    refine kz_icmp_ne (M := kt_M217) kX18_two_c2.2.2.2.2.1 (t := 237) rfl h (fun h => ?_) (fun h => ?_)
    · skip
      refine kz_iload_n (M := kt_M217) kX18_two_c2.2.2.2.2.2.2.2.1 rfl ?_
      refine kz_iload_n (M := kt_M217) kX18_two_c3.1 rfl ?_
      obtain ⟨h0, h⟩ := h
      refine kz_irem (M := kt_M217) kX18_two_c3.2.1 h0 ?_
      exact kz_weak [] trivial rfl (zt_X18_two_p240 hL  h)
    · skip
      refine kz_ic (M := kt_M217) 0 kX18_two_c2.2.2.2.2.2.1 rfl ?_
      refine kz_goto (M := kt_M217) kX18_two_c2.2.2.2.2.2.2.1 (t := 240) rfl ?_
      exact kz_weak [] trivial rfl (zt_X18_two_p240 hL  h)
  · skip
    refine kz_iload_n (M := kt_M217) kX18_two_c3.2.2.2.1 rfl ?_
    refine kz_iload_n (M := kt_M217) kX18_two_c3.2.2.2.2.1 rfl ?_
    refine kz_iand (M := kt_M217) kX18_two_c3.2.2.2.2.2.1 ?_
    exact kz_iret (M := kt_M217) kX18_two_c3.2.2.2.2.2.2.1 rfl rfl h
  · skip
    refine kz_iload_n (M := kt_M217) kX18_two_c3.2.2.2.2.2.2.2.1 rfl ?_
    refine kz_iload_n (M := kt_M217) kX18_two_c4.1 rfl ?_
    refine kz_ior (M := kt_M217) kX18_two_c4.2.1 ?_
    exact kz_iret (M := kt_M217) kX18_two_c4.2.2.1 rfl rfl h
  · skip
    refine kz_iload_n (M := kt_M217) kX18_two_c4.2.2.2.1 rfl ?_
    refine kz_iload_n (M := kt_M217) kX18_two_c4.2.2.2.2.1 rfl ?_
    refine kz_ixor (M := kt_M217) kX18_two_c4.2.2.2.2.2.1 ?_
    exact kz_iret (M := kt_M217) kX18_two_c4.2.2.2.2.2.2.1 rfl rfl h
  · skip
    refine kz_iload_n (M := kt_M217) kX18_two_c4.2.2.2.2.2.2.2.1 rfl ?_
    refine kz_bi (M := kt_M217) 32 kX18_two_c5.1 rfl ?_
    refine kz_icmp_ne (M := kt_M217) kX18_two_c5.2.1 (t := 263) rfl h (fun h => ?_) (fun h => ?_)
    · skip
      refine kz_iload_n (M := kt_M217) kX18_two_c5.2.2.2.2.1 rfl ?_
      refine kz_iload_n (M := kt_M217) kX18_two_c5.2.2.2.2.2.1 rfl ?_
      refine kz_ishl (M := kt_M217) kX18_two_c5.2.2.2.2.2.2.1 ?_
      exact kz_weak [] trivial rfl (zt_X18_two_p266 hL  h)
    · skip
      refine kz_ic (M := kt_M217) 0 kX18_two_c5.2.2.1 rfl ?_
      refine kz_goto (M := kt_M217) kX18_two_c5.2.2.2.1 (t := 266) rfl ?_
      exact kz_weak [] trivial rfl (zt_X18_two_p266 hL  h)
  · skip
    refine kz_iload_n (M := kt_M217) kX18_two_c6.1 rfl ?_
    refine kz_bi (M := kt_M217) 32 kX18_two_c6.2.1 rfl ?_
    refine kz_icmp_ne (M := kt_M217) kX18_two_c6.2.2.1 (t := 277) rfl h (fun h => ?_) (fun h => ?_)
    · skip
      refine kz_iload_n (M := kt_M217) kX18_two_c6.2.2.2.2.2.1 rfl ?_
      refine kz_iload_n (M := kt_M217) kX18_two_c6.2.2.2.2.2.2.1 rfl ?_
      refine kz_iushr (M := kt_M217) kX18_two_c6.2.2.2.2.2.2.2.1 ?_
      exact kz_weak [] trivial rfl (zt_X18_two_p280 hL  h)
    · skip
      refine kz_ic (M := kt_M217) 0 kX18_two_c6.2.2.2.1 rfl ?_
      refine kz_goto (M := kt_M217) kX18_two_c6.2.2.2.2.1 (t := 280) rfl ?_
      exact kz_weak [] trivial rfl (zt_X18_two_p280 hL  h)
  · skip
    refine kz_iload_n (M := kt_M217) kX18_two_c12.2.2.2.1 rfl ?_
    refine kz_iload_n (M := kt_M217) kX18_two_c12.2.2.2.2.1 rfl ?_
    refine kz_isub (M := kt_M217) kX18_two_c12.2.2.2.2.2.1 ?_
    refine kz_if_le (M := kt_M217) kX18_two_c12.2.2.2.2.2.2.1 (t := 357) rfl h (fun h => ?_) (fun h => ?_)
    · skip
      refine kz_ic (M := kt_M217) 0 kX18_two_c13.2.1 rfl ?_
      exact kz_weak [] trivial rfl (zt_X18_two_p358 hL  h)
    · skip
      refine kz_ic (M := kt_M217) 1 kX18_two_c12.2.2.2.2.2.2.2.1 rfl ?_
      refine kz_goto (M := kt_M217) kX18_two_c13.1 (t := 358) rfl ?_
      exact kz_weak [] trivial rfl (zt_X18_two_p358 hL  h)
def zb_X19_init_p0 (E : zE) (L : Nat) (Q : kx_Rs → wS → Prop) (x0 : Nat) (w : wS) : Prop := Q (.inl none) w
theorem zt_X19_init_p0 {E : zE} {L : Nat} {Q : kx_Rs → wS → Prop} {x0 : Nat} {w : wS} (hL : 30 ≤ L) (hl0 : w_l w E.2.1 16 x0) (h : zb_X19_init_p0 E L Q x0 w) : kzE E L kt_M291 0 [(0, .ref (w_adr E.2.1 16 x0))] [] w Q := by
  unfold zb_X19_init_p0 at h
  refine kz_aload_n (M := kt_M291) kX19_init_c0.1 rfl ?_
  refine kz_oinit (M := kt_M291) kX19_init_c0.2.1 zoi_X19_3 (Nat.le_trans (by simp [kx_cat, w_cat, z_ci, z_cr, z_cl, z_cn]) hL) ?_
  exact kz_ret (M := kt_M291) kX19_init_c0.2.2.1 rfl h
def zb_X20_keep_p27 (E : zE) (L : Nat) (Q : kx_Rs → wS → Prop) (x0 : Nat) (x1 : Int32) (w : wS) : Prop := (kx_inb (w_i w 17 x0 17) (w_n w 17 x0 14) = true ∧ Q (.inl none) (ws_a (ws_i w 17 x0 17 ((w_i w 17 x0 17) + 1)) 17 x0 14 (w_i w 17 x0 17).toNatClampNeg x1))
theorem zt_X20_keep_p27 {E : zE} {L : Nat} {Q : kx_Rs → wS → Prop} {x0 : Nat} {x1 : Int32} {w : wS} (hL : 22 ≤ L) (hl0 : w_l w E.2.1 17 x0) (h : zb_X20_keep_p27 E L Q x0 x1 w) : kzE E L kt_M234 27 [(0, .ref (w_adr E.2.1 17 x0)), (1, .int x1)] [] w Q := by
  unfold zb_X20_keep_p27 at h
  refine kz_aload_n (M := kt_M234) kX20_keep_c1.2.2.2.2.2.1 rfl ?_
  refine kz_gfa (M := kt_M234) (c := 17) (o := x0) kX20_keep_c1.2.2.2.2.2.2.1 wf_X20_18 (.inr (by exact hl0)) ?_
  refine kz_aload_n (M := kt_M234) kX20_keep_c1.2.2.2.2.2.2.2.1 rfl ?_
  refine kz_dup (M := kt_M234) kX20_keep_c2.1 rfl ?_
  refine kz_gfi (M := kt_M234) (c := 17) (o := x0) kX20_keep_c2.2.1 wf_X20_71 (.inr (by exact hl0)) ?_
  refine kz_dup_x1 (M := kt_M234) kX20_keep_c2.2.2.1 ⟨rfl, rfl⟩ ?_
  refine kz_ic (M := kt_M234) 1 kX20_keep_c2.2.2.2.1 rfl ?_
  refine kz_iadd (M := kt_M234) kX20_keep_c2.2.2.2.2.1 ?_
  refine kz_pfi (M := kt_M234) (c := 17) (o := x0) kX20_keep_c2.2.2.2.2.2.1 wq_X20_71 (.inr (by exact hl0)) ?_
  refine kz_iload_n (M := kt_M234) kX20_keep_c2.2.2.2.2.2.2.1 rfl ?_
  refine kz_iastR (M := kt_M234) (n := w_n w 17 x0 14) (c := 17) (o := x0) (k := 14) (a := (w_d w 17 x0 14)) kX20_keep_c2.2.2.2.2.2.2.2.1 (.inr ⟨.inr (by exact hl0), rfl, rfl⟩) rfl ot_0 rd_n_i h (fun h => ?_)
  exact kz_ret (M := kt_M234) kX20_keep_c3.1 rfl h
def zb_X20_keep_p0 (E : zE) (L : Nat) (Q : kx_Rs → wS → Prop) (x0 : Nat) (x1 : Int32) (w : wS) : Prop := (if ¬ w_i w 17 x0 17 = (Int32.ofNat (w_n w 17 x0 14)) then zb_X20_keep_p27 E L Q x0 x1 w else zw E (L - 22) kt_M232 [.ref (w_d w 17 x0 14), .int (w_i w 17 x0 17)] w (wkr (fun v2 w1 => wle w w1 → (∃ a3, v2 = some a3 ∧ (w_o w1 a3 = some (99, a3, 0) ∧ w_t w1 a3 = 0) ∧ (w_l (ws_put w1 17 x0 14 a3) E.2.1 17 x0 ∧ zb_X20_keep_p27 E L Q x0 x1 (ws_put w1 17 x0 14 a3)))) (fun e w => Q (.inr e) w)))
theorem zt_X20_keep_p0 {E : zE} {L : Nat} {Q : kx_Rs → wS → Prop} {x0 : Nat} {x1 : Int32} {w : wS} (hL : 22 ≤ L) (hl0 : w_l w E.2.1 17 x0) (h : zb_X20_keep_p0 E L Q x0 x1 w) : kzE E L kt_M234 0 [(0, .ref (w_adr E.2.1 17 x0)), (1, .int x1)] [] w Q := by
  unfold zb_X20_keep_p0 at h
  refine kz_aload_n (M := kt_M234) kX20_keep_c0.1 rfl ?_
  refine kz_gfi (M := kt_M234) (c := 17) (o := x0) kX20_keep_c0.2.1 wf_X20_71 (.inr (by exact hl0)) ?_
  refine kz_aload_n (M := kt_M234) kX20_keep_c0.2.2.1 rfl ?_
  refine kz_gfa (M := kt_M234) (c := 17) (o := x0) kX20_keep_c0.2.2.2.1 wf_X20_18 (.inr (by exact hl0)) ?_
  refine kz_alen (M := kt_M234) (c := 17) (o := x0) (k := 14) (a := (w_d w 17 x0 14)) (τ := 0) kX20_keep_c0.2.2.2.2.1 (.inr ⟨.inr (by exact hl0), rfl, rfl⟩) rfl (Nat.le_of_ble_eq_true rfl) ?_
  refine kz_icmp_ne (M := kt_M234) kX20_keep_c0.2.2.2.2.2.1 (t := 27) rfl h (fun h => ?_) (fun h => ?_)
  · skip
    exact kz_weak [(0, .ref (w_adr E.2.1 17 x0)), (1, .int x1)] ⟨rfl, ⟨rfl, trivial⟩⟩ rfl (zt_X20_keep_p27 hL hl0  h)
  · skip
    refine kz_aload_n (M := kt_M234) kX20_keep_c0.2.2.2.2.2.2.1 rfl ?_
    refine kz_aload_n (M := kt_M234) kX20_keep_c0.2.2.2.2.2.2.2.1 rfl ?_
    refine kz_gfa (M := kt_M234) (c := 17) (o := x0) kX20_keep_c1.1 wf_X20_18 (.inr (by exact hl0)) ?_
    refine kz_aload_n (M := kt_M234) kX20_keep_c1.2.1 rfl ?_
    refine kz_gfi (M := kt_M234) (c := 17) (o := x0) kX20_keep_c1.2.2.1 wf_X20_71 (.inr (by exact hl0)) ?_
    refine kz_csr (M := kt_M234) (As := [.ref (w_d w 17 x0 14), .int (w_i w 17 x0 17)]) (rest := [.ref (w_adr E.2.1 17 x0)]) kX20_keep_c1.2.2.2.1 wl_X20_87 wMs_232 rfl (Nat.le_trans (Nat.le_of_ble_eq_true rfl) hL) (Nat.le_of_ble_eq_true rfl) (Nat.le_of_ble_eq_true rfl) h (fun v2 w1 hle h => ?_) (fun _ _ _ h => kzx_no rfl h)
    have h := h hle
    have hl0 := w_l_le hl0 hle
    obtain ⟨a3, hx, h⟩ := h
    refine kz_nz0 (M := kt_M234) (x := v2) hx ?_
    refine kz_pfa (M := kt_M234) (c := 17) (o := x0) (τ := 0) kX20_keep_c1.2.2.2.2.1 wq_X20_18 (.inr (by exact hl0)) rfl h (fun h => ?_)
    obtain ⟨hl0, h⟩ := h
    exact kz_weak [(0, .ref (w_adr E.2.1 17 x0)), (1, .int x1)] ⟨rfl, ⟨rfl, trivial⟩⟩ rfl (zt_X20_keep_p27 hL hl0  h)
def zb_X20_grown_p0 (E : zE) (L : Nat) (Q : kx_Rs → wS → Prop) (c0 o0 k0 : Nat) (x1 : Int32) (w : wS) : Prop := ((¬ ((2 * (Int32.ofNat (w_n w c0 o0 k0)))) < 0 ∧ ((2 * (Int32.ofNat (w_n w c0 o0 k0)))).toNatClampNeg * 4 ≤ 536870912 ∧ 1 ≤ w_C w ∧ ((2 * (Int32.ofNat (w_n w c0 o0 k0)))).toNatClampNeg ≤ w_S w) ∧ (w_own (ws_new w 0 ((2 * (Int32.ofNat (w_n w c0 o0 k0)))).toNatClampNeg) wG E.2.1 0 c0 o0 k0 ∧ ((w_o (ws_new w 0 ((2 * (Int32.ofNat (w_n w c0 o0 k0)))).toNatClampNeg) (w_z w) = some (99, (w_z w), 0) ∧ w_t (ws_new w 0 ((2 * (Int32.ofNat (w_n w c0 o0 k0)))).toNatClampNeg) (w_z w) = 0) ∧ (((¬ (0 : Int32) < 0 ∧ ¬ (0 : Int32) < 0 ∧ ¬ (x1) < 0) ∧ (0 : Int32).toNatClampNeg + (x1).toNatClampNeg ≤ w_n (ws_new w 0 ((2 * (Int32.ofNat (w_n w c0 o0 k0)))).toNatClampNeg) c0 o0 k0 ∧ (0 : Int32).toNatClampNeg + (x1).toNatClampNeg ≤ w_n (ws_new w 0 ((2 * (Int32.ofNat (w_n w c0 o0 k0)))).toNatClampNeg) 99 (w_z w) 0 ∧ ∀ i, i < (x1).toNatClampNeg → fits .int (.int (w_a (ws_new w 0 ((2 * (Int32.ofNat (w_n w c0 o0 k0)))).toNatClampNeg) c0 o0 k0 ((0 : Int32).toNatClampNeg + i))) = true) ∧ Q (.inl (some (.ref (w_z w)))) (ws_A (ws_new w 0 ((2 * (Int32.ofNat (w_n w c0 o0 k0)))).toNatClampNeg) 99 (w_z w) 0 (va_cpy (w_a (ws_new w 0 ((2 * (Int32.ofNat (w_n w c0 o0 k0)))).toNatClampNeg) c0 o0 k0) (w_a (ws_new w 0 ((2 * (Int32.ofNat (w_n w c0 o0 k0)))).toNatClampNeg) 99 (w_z w) 0) (0 : Int32).toNatClampNeg (0 : Int32).toNatClampNeg (x1).toNatClampNeg))))))
theorem zt_X20_grown_p0 {E : zE} {L : Nat} {Q : kx_Rs → wS → Prop} {c0 o0 k0 : Nat} {x1 : Int32} {w : wS} (hL : 60 ≤ L) (ho0 : w_own w wG E.2.1 0 c0 o0 k0) (h : zb_X20_grown_p0 E L Q c0 o0 k0 x1 w) : kzE E L kt_M232 0 [(0, .ref (w_aa wG E.2.1 w c0 o0 k0)), (1, .int x1)] [] w Q := by
  unfold zb_X20_grown_p0 at h
  refine kz_ic (M := kt_M232) 2 kX20_grown_c0.1 rfl ?_
  refine kz_aload_n (M := kt_M232) kX20_grown_c0.2.1 rfl ?_
  refine kz_alen (M := kt_M232) (c := c0) (o := o0) (k := k0) (a := (w_aa wG E.2.1 w c0 o0 k0)) (τ := 0) kX20_grown_c0.2.2.1 ho0 rfl (Nat.le_of_ble_eq_true rfl) ?_
  refine kz_imul (M := kt_M232) kX20_grown_c0.2.2.2.1 ?_
  refine kz_newi (M := kt_M232) kX20_grown_c0.2.2.2.2.1 ot_f0 ot_0 ot_ai h (fun h => ?_)
  obtain ⟨ho0, h⟩ := h
  refine kz_sta_n (M := kt_M232) [(0, .ref (w_aa wG E.2.1 (ws_new w 0 ((2 * (Int32.ofNat (w_n w c0 o0 k0)))).toNatClampNeg) c0 o0 k0)), (1, .int x1)] kX20_grown_c0.2.2.2.2.2.1 (Nat.le_of_ble_eq_true rfl) ⟨⟨rfl, rfl, .inl rfl⟩, ⟨⟨rfl, rfl, .inr rfl⟩, trivial⟩⟩ rfl ?_
  refine kz_aload_n (M := kt_M232) kX20_grown_c0.2.2.2.2.2.2.1 rfl ?_
  refine kz_ic (M := kt_M232) 0 kX20_grown_c0.2.2.2.2.2.2.2.1 rfl ?_
  refine kz_aload_n (M := kt_M232) kX20_grown_c1.1 rfl ?_
  refine kz_ic (M := kt_M232) 0 kX20_grown_c1.2.1 rfl ?_
  refine kz_iload_n (M := kt_M232) kX20_grown_c1.2.2.1 rfl ?_
  obtain ⟨h0, h⟩ := h
  refine kz_cpyi (M := kt_M232) (τ := 0) (ty := .int) (c0 := c0) (o0 := o0) (k0 := k0) (c := 99) (o := (w_z w)) (k := 0) (a0 := (w_aa wG E.2.1 (ws_new w 0 ((2 * (Int32.ofNat (w_n w c0 o0 k0)))).toNatClampNeg) c0 o0 k0)) (a := (w_z w)) kX20_grown_c1.2.2.2.1 (zac_X20_81) (by decide) rfl rfl ho0 rfl (.inl ⟨rfl, rfl, h0.1, h0.2⟩) rfl (Nat.le_trans (by simp [kx_cat, w_cat, zac_w, z_ci, z_cr, z_cl, z_cn]) hL) h (fun h => ?_)
  refine kz_aload_n (M := kt_M232) kX20_grown_c1.2.2.2.2.1 rfl ?_
  exact kz_areta (M := kt_M232) kX20_grown_c1.2.2.2.2.2.1 rfl h
def zb_X20_guard_p29 (E : zE) (L : Nat) (Q : kx_Rs → wS → Prop) (x0 : Nat) (x1 : Int32) (x2 : Int32) (x3 : Int32) (x4 : Int32) (w : wS) : Prop := (kx_inb (w_i w 17 x0 16) (w_n w 17 x0 13) = true ∧ (kx_inb ((w_i w 17 x0 16) + 1) (w_n w 17 x0 13) = true ∧ (kx_inb ((w_i w 17 x0 16) + 2) (w_n w 17 x0 13) = true ∧ (kx_inb ((w_i w 17 x0 16) + 3) (w_n w 17 x0 13) = true ∧ Q (.inl none) (ws_i (ws_a (ws_a (ws_a (ws_a w 17 x0 13 (w_i w 17 x0 16).toNatClampNeg x1) 17 x0 13 (((w_i w 17 x0 16) + 1)).toNatClampNeg x2) 17 x0 13 (((w_i w 17 x0 16) + 2)).toNatClampNeg x3) 17 x0 13 (((w_i w 17 x0 16) + 3)).toNatClampNeg x4) 17 x0 16 ((w_i w 17 x0 16) + 4))))))
theorem zt_X20_guard_p29 {E : zE} {L : Nat} {Q : kx_Rs → wS → Prop} {x0 : Nat} {x1 : Int32} {x2 : Int32} {x3 : Int32} {x4 : Int32} {w : wS} (hL : 22 ≤ L) (hl0 : w_l w E.2.1 17 x0) (h : zb_X20_guard_p29 E L Q x0 x1 x2 x3 x4 w) : kzE E L kt_M233 29 [(0, .ref (w_adr E.2.1 17 x0)), (1, .int x1), (2, .int x2), (3, .int x3), (4, .int x4)] [] w Q := by
  unfold zb_X20_guard_p29 at h
  refine kz_aload_n (M := kt_M233) kX20_guard_c1.2.2.2.2.2.2.2.1 rfl ?_
  refine kz_gfa (M := kt_M233) (c := 17) (o := x0) kX20_guard_c2.1 wf_X20_15 (.inr (by exact hl0)) ?_
  refine kz_aload_n (M := kt_M233) kX20_guard_c2.2.1 rfl ?_
  refine kz_gfi (M := kt_M233) (c := 17) (o := x0) kX20_guard_c2.2.2.1 wf_X20_68 (.inr (by exact hl0)) ?_
  refine kz_iload_n (M := kt_M233) kX20_guard_c2.2.2.2.1 rfl ?_
  refine kz_iast (M := kt_M233) (c := 17) (o := x0) (k := 13) (a := (w_d w 17 x0 13)) kX20_guard_c2.2.2.2.2.1 (.inr ⟨.inr (by exact hl0), rfl, rfl⟩) rfl ot_0 h (fun h => ?_)
  refine kz_aload_n (M := kt_M233) kX20_guard_c2.2.2.2.2.2.1 rfl ?_
  refine kz_gfa (M := kt_M233) (c := 17) (o := x0) kX20_guard_c2.2.2.2.2.2.2.1 wf_X20_15 (.inr (by exact hl0)) ?_
  refine kz_aload_n (M := kt_M233) kX20_guard_c2.2.2.2.2.2.2.2.1 rfl ?_
  refine kz_gfiR (M := kt_M233) (c := 17) (o := x0) (w_i w 17 x0 16) kX20_guard_c3.1 wf_X20_68 (.inr (by exact hl0)) rd_i_a ?_
  refine kz_ic (M := kt_M233) 1 kX20_guard_c3.2.1 rfl ?_
  refine kz_iadd (M := kt_M233) kX20_guard_c3.2.2.1 ?_
  refine kz_iload_n (M := kt_M233) kX20_guard_c3.2.2.2.1 rfl ?_
  refine kz_iastR (M := kt_M233) (n := w_n w 17 x0 13) (c := 17) (o := x0) (k := 13) (a := (w_d (ws_a w 17 x0 13 (w_i w 17 x0 16).toNatClampNeg x1) 17 x0 13)) kX20_guard_c3.2.2.2.2.1 (.inr ⟨.inr (by exact hl0), rfl, rfl⟩) rfl ot_0 rd_n_a h (fun h => ?_)
  refine kz_aload_n (M := kt_M233) kX20_guard_c3.2.2.2.2.2.1 rfl ?_
  refine kz_gfa (M := kt_M233) (c := 17) (o := x0) kX20_guard_c3.2.2.2.2.2.2.1 wf_X20_15 (.inr (by exact hl0)) ?_
  refine kz_aload_n (M := kt_M233) kX20_guard_c3.2.2.2.2.2.2.2.1 rfl ?_
  refine kz_gfiR (M := kt_M233) (c := 17) (o := x0) (w_i w 17 x0 16) kX20_guard_c4.1 wf_X20_68 (.inr (by exact hl0)) (rd_i_a.trans rd_i_a) ?_
  refine kz_ic (M := kt_M233) 2 kX20_guard_c4.2.1 rfl ?_
  refine kz_iadd (M := kt_M233) kX20_guard_c4.2.2.1 ?_
  refine kz_iload_n (M := kt_M233) kX20_guard_c4.2.2.2.1 rfl ?_
  refine kz_iastR (M := kt_M233) (n := w_n w 17 x0 13) (c := 17) (o := x0) (k := 13) (a := (w_d (ws_a (ws_a w 17 x0 13 (w_i w 17 x0 16).toNatClampNeg x1) 17 x0 13 (((w_i w 17 x0 16) + 1)).toNatClampNeg x2) 17 x0 13)) kX20_guard_c4.2.2.2.2.1 (.inr ⟨.inr (by exact hl0), rfl, rfl⟩) rfl ot_0 (rd_n_a.trans rd_n_a) h (fun h => ?_)
  refine kz_aload_n (M := kt_M233) kX20_guard_c4.2.2.2.2.2.1 rfl ?_
  refine kz_gfa (M := kt_M233) (c := 17) (o := x0) kX20_guard_c4.2.2.2.2.2.2.1 wf_X20_15 (.inr (by exact hl0)) ?_
  refine kz_aload_n (M := kt_M233) kX20_guard_c4.2.2.2.2.2.2.2.1 rfl ?_
  refine kz_gfiR (M := kt_M233) (c := 17) (o := x0) (w_i w 17 x0 16) kX20_guard_c5.1 wf_X20_68 (.inr (by exact hl0)) (rd_i_a.trans (rd_i_a.trans rd_i_a)) ?_
  refine kz_ic (M := kt_M233) 3 kX20_guard_c5.2.1 rfl ?_
  refine kz_iadd (M := kt_M233) kX20_guard_c5.2.2.1 ?_
  refine kz_iload (M := kt_M233) kX20_guard_c5.2.2.2.1 rfl ?_
  refine kz_iastR (M := kt_M233) (n := w_n w 17 x0 13) (c := 17) (o := x0) (k := 13) (a := (w_d (ws_a (ws_a (ws_a w 17 x0 13 (w_i w 17 x0 16).toNatClampNeg x1) 17 x0 13 (((w_i w 17 x0 16) + 1)).toNatClampNeg x2) 17 x0 13 (((w_i w 17 x0 16) + 2)).toNatClampNeg x3) 17 x0 13)) kX20_guard_c5.2.2.2.2.1 (.inr ⟨.inr (by exact hl0), rfl, rfl⟩) rfl ot_0 (rd_n_a.trans (rd_n_a.trans rd_n_a)) h (fun h => ?_)
  refine kz_aload_n (M := kt_M233) kX20_guard_c5.2.2.2.2.2.1 rfl ?_
  refine kz_dup (M := kt_M233) kX20_guard_c5.2.2.2.2.2.2.1 rfl ?_
  refine kz_gfiR (M := kt_M233) (c := 17) (o := x0) (w_i w 17 x0 16) kX20_guard_c5.2.2.2.2.2.2.2.1 wf_X20_68 (.inr (by exact hl0)) (rd_i_a.trans (rd_i_a.trans (rd_i_a.trans rd_i_a))) ?_
  refine kz_ic (M := kt_M233) 4 kX20_guard_c6.1 rfl ?_
  refine kz_iadd (M := kt_M233) kX20_guard_c6.2.1 ?_
  refine kz_pfi (M := kt_M233) (c := 17) (o := x0) kX20_guard_c6.2.2.1 wq_X20_68 (.inr (by exact hl0)) ?_
  exact kz_ret (M := kt_M233) kX20_guard_c6.2.2.2.1 rfl h
def zb_X20_guard_p0 (E : zE) (L : Nat) (Q : kx_Rs → wS → Prop) (x0 : Nat) (x1 : Int32) (x2 : Int32) (x3 : Int32) (x4 : Int32) (w : wS) : Prop := (if ((w_i w 17 x0 16) + 4) ≤ (Int32.ofNat (w_n w 17 x0 13)) then zb_X20_guard_p29 E L Q x0 x1 x2 x3 x4 w else zw E (L - 22) kt_M232 [.ref (w_d w 17 x0 13), .int (w_i w 17 x0 16)] w (wkr (fun v2 w1 => wle w w1 → (∃ a3, v2 = some a3 ∧ (w_o w1 a3 = some (99, a3, 0) ∧ w_t w1 a3 = 0) ∧ (w_l (ws_put w1 17 x0 13 a3) E.2.1 17 x0 ∧ zb_X20_guard_p29 E L Q x0 x1 x2 x3 x4 (ws_put w1 17 x0 13 a3)))) (fun e w => Q (.inr e) w)))
theorem zt_X20_guard_p0 {E : zE} {L : Nat} {Q : kx_Rs → wS → Prop} {x0 : Nat} {x1 : Int32} {x2 : Int32} {x3 : Int32} {x4 : Int32} {w : wS} (hL : 22 ≤ L) (hl0 : w_l w E.2.1 17 x0) (h : zb_X20_guard_p0 E L Q x0 x1 x2 x3 x4 w) : kzE E L kt_M233 0 [(0, .ref (w_adr E.2.1 17 x0)), (1, .int x1), (2, .int x2), (3, .int x3), (4, .int x4)] [] w Q := by
  unfold zb_X20_guard_p0 at h
  refine kz_aload_n (M := kt_M233) kX20_guard_c0.1 rfl ?_
  refine kz_gfi (M := kt_M233) (c := 17) (o := x0) kX20_guard_c0.2.1 wf_X20_68 (.inr (by exact hl0)) ?_
  refine kz_ic (M := kt_M233) 4 kX20_guard_c0.2.2.1 rfl ?_
  refine kz_iadd (M := kt_M233) kX20_guard_c0.2.2.2.1 ?_
  refine kz_aload_n (M := kt_M233) kX20_guard_c0.2.2.2.2.1 rfl ?_
  refine kz_gfa (M := kt_M233) (c := 17) (o := x0) kX20_guard_c0.2.2.2.2.2.1 wf_X20_15 (.inr (by exact hl0)) ?_
  refine kz_alen (M := kt_M233) (c := 17) (o := x0) (k := 13) (a := (w_d w 17 x0 13)) (τ := 0) kX20_guard_c0.2.2.2.2.2.2.1 (.inr ⟨.inr (by exact hl0), rfl, rfl⟩) rfl (Nat.le_of_ble_eq_true rfl) ?_
  refine kz_icmp_le (M := kt_M233) kX20_guard_c0.2.2.2.2.2.2.2.1 (t := 29) rfl h (fun h => ?_) (fun h => ?_)
  · skip
    exact kz_weak [(0, .ref (w_adr E.2.1 17 x0)), (1, .int x1), (2, .int x2), (3, .int x3), (4, .int x4)] ⟨rfl, ⟨rfl, ⟨rfl, ⟨rfl, ⟨rfl, trivial⟩⟩⟩⟩⟩ rfl (zt_X20_guard_p29 hL hl0  h)
  · skip
    refine kz_aload_n (M := kt_M233) kX20_guard_c1.1 rfl ?_
    refine kz_aload_n (M := kt_M233) kX20_guard_c1.2.1 rfl ?_
    refine kz_gfa (M := kt_M233) (c := 17) (o := x0) kX20_guard_c1.2.2.1 wf_X20_15 (.inr (by exact hl0)) ?_
    refine kz_aload_n (M := kt_M233) kX20_guard_c1.2.2.2.1 rfl ?_
    refine kz_gfi (M := kt_M233) (c := 17) (o := x0) kX20_guard_c1.2.2.2.2.1 wf_X20_68 (.inr (by exact hl0)) ?_
    refine kz_csr (M := kt_M233) (As := [.ref (w_d w 17 x0 13), .int (w_i w 17 x0 16)]) (rest := [.ref (w_adr E.2.1 17 x0)]) kX20_guard_c1.2.2.2.2.2.1 wl_X20_87 wMs_232 rfl (Nat.le_trans (Nat.le_of_ble_eq_true rfl) hL) (Nat.le_of_ble_eq_true rfl) (Nat.le_of_ble_eq_true rfl) h (fun v2 w1 hle h => ?_) (fun _ _ _ h => kzx_no rfl h)
    have h := h hle
    have hl0 := w_l_le hl0 hle
    obtain ⟨a3, hx, h⟩ := h
    refine kz_nz0 (M := kt_M233) (x := v2) hx ?_
    refine kz_pfa (M := kt_M233) (c := 17) (o := x0) (τ := 0) kX20_guard_c1.2.2.2.2.2.2.1 wq_X20_15 (.inr (by exact hl0)) rfl h (fun h => ?_)
    obtain ⟨hl0, h⟩ := h
    exact kz_weak [(0, .ref (w_adr E.2.1 17 x0)), (1, .int x1), (2, .int x2), (3, .int x3), (4, .int x4)] ⟨rfl, ⟨rfl, ⟨rfl, ⟨rfl, ⟨rfl, trivial⟩⟩⟩⟩⟩ rfl (zt_X20_guard_p29 hL hl0  h)
def zb_X20_begin_p0 (E : zE) (L : Nat) (Q : kx_Rs → wS → Prop) (x0 : Nat) (x1 : Int32) (x2 : Option Nat) (x3 : Int32) (x4 : Int32) (w : wS) : Prop := Q (.inl (some (va_rf (some (w_adr E.2.1 17 x0))))) (ws_i (ws_i (ws_i (ws_i (ws_i (ws_p (ws_p (ws_i (ws_i (ws_i (ws_i (ws_i (ws_i (ws_i (ws_i (ws_p (ws_i w 17 x0 0 x1) 17 x0 10 x2) 17 x0 1 x3) 17 x0 2 x4) 17 x0 3 0) 17 x0 4 (-1)) 17 x0 5 0) 17 x0 6 0) 17 x0 7 0) 17 x0 8 0) 17 x0 9 (some (E.1.1 61))) 17 x0 11 none) 17 x0 15 0) 17 x0 16 0) 17 x0 17 0) 17 x0 18 0) 17 x0 19 0)
theorem zt_X20_begin_p0 {E : zE} {L : Nat} {Q : kx_Rs → wS → Prop} {x0 : Nat} {x1 : Int32} {x2 : Option Nat} {x3 : Int32} {x4 : Int32} {w : wS} (hL : 19 ≤ L) (hl0 : w_l w E.2.1 17 x0) (h : zb_X20_begin_p0 E L Q x0 x1 x2 x3 x4 w) : kzE E L kt_M231 0 [(0, .ref (w_adr E.2.1 17 x0)), (1, .int x1), (2, va_rf (x2)), (3, .int x3), (4, .int x4)] [] w Q := by
  unfold zb_X20_begin_p0 at h
  refine kz_aload_n (M := kt_M231) kX20_begin_c0.1 rfl ?_
  refine kz_iload_n (M := kt_M231) kX20_begin_c0.2.1 rfl ?_
  refine kz_pfi (M := kt_M231) (c := 17) (o := x0) kX20_begin_c0.2.2.1 wq_X20_21 (.inr (by exact hl0)) ?_
  refine kz_aload_n (M := kt_M231) kX20_begin_c0.2.2.2.1 rfl ?_
  refine kz_aload_nv (M := kt_M231) (x := x2) kX20_begin_c0.2.2.2.2.1 rfl ?_
  refine kz_pfp (M := kt_M231) (n := x2) (c := 17) (o := x0) kX20_begin_c0.2.2.2.2.2.1 wq_X20_25 (.inr (by exact hl0)) ?_
  refine kz_aload_n (M := kt_M231) kX20_begin_c0.2.2.2.2.2.2.1 rfl ?_
  refine kz_iload_n (M := kt_M231) kX20_begin_c0.2.2.2.2.2.2.2.1 rfl ?_
  refine kz_pfi (M := kt_M231) (c := 17) (o := x0) kX20_begin_c1.1 wq_X20_29 (.inr (by exact hl0)) ?_
  refine kz_aload_n (M := kt_M231) kX20_begin_c1.2.1 rfl ?_
  refine kz_iload (M := kt_M231) kX20_begin_c1.2.2.1 rfl ?_
  refine kz_pfi (M := kt_M231) (c := 17) (o := x0) kX20_begin_c1.2.2.2.1 wq_X20_32 (.inr (by exact hl0)) ?_
  refine kz_aload_n (M := kt_M231) kX20_begin_c1.2.2.2.2.1 rfl ?_
  refine kz_ic (M := kt_M231) 0 kX20_begin_c1.2.2.2.2.2.1 rfl ?_
  refine kz_pfi (M := kt_M231) (c := 17) (o := x0) kX20_begin_c1.2.2.2.2.2.2.1 wq_X20_35 (.inr (by exact hl0)) ?_
  refine kz_aload_n (M := kt_M231) kX20_begin_c1.2.2.2.2.2.2.2.1 rfl ?_
  refine kz_ic (M := kt_M231) (-1) kX20_begin_c2.1 rfl ?_
  refine kz_pfi (M := kt_M231) (c := 17) (o := x0) kX20_begin_c2.2.1 wq_X20_38 (.inr (by exact hl0)) ?_
  refine kz_aload_n (M := kt_M231) kX20_begin_c2.2.2.1 rfl ?_
  refine kz_ic (M := kt_M231) 0 kX20_begin_c2.2.2.2.1 rfl ?_
  refine kz_pfi (M := kt_M231) (c := 17) (o := x0) kX20_begin_c2.2.2.2.2.1 wq_X20_41 (.inr (by exact hl0)) ?_
  refine kz_aload_n (M := kt_M231) kX20_begin_c2.2.2.2.2.2.1 rfl ?_
  refine kz_ic (M := kt_M231) 0 kX20_begin_c2.2.2.2.2.2.2.1 rfl ?_
  refine kz_pfi (M := kt_M231) (c := 17) (o := x0) kX20_begin_c2.2.2.2.2.2.2.2.1 wq_X20_44 (.inr (by exact hl0)) ?_
  refine kz_aload_n (M := kt_M231) kX20_begin_c3.1 rfl ?_
  refine kz_ic (M := kt_M231) 0 kX20_begin_c3.2.1 rfl ?_
  refine kz_pfi (M := kt_M231) (c := 17) (o := x0) kX20_begin_c3.2.2.1 wq_X20_47 (.inr (by exact hl0)) ?_
  refine kz_aload_n (M := kt_M231) kX20_begin_c3.2.2.2.1 rfl ?_
  refine kz_ic (M := kt_M231) 0 kX20_begin_c3.2.2.2.2.1 rfl ?_
  refine kz_pfi (M := kt_M231) (c := 17) (o := x0) kX20_begin_c3.2.2.2.2.2.1 wq_X20_50 (.inr (by exact hl0)) ?_
  refine kz_aload_n (M := kt_M231) kX20_begin_c3.2.2.2.2.2.2.1 rfl ?_
  refine kz_getsE (M := kt_M231) (v := va_rf (some (E.1.1 61))) kX20_begin_c3.2.2.2.2.2.2.2.1 zs_X20_53 ?_
  refine kz_pfp (M := kt_M231) (n := some (E.1.1 61)) (c := 17) (o := x0) kX20_begin_c4.1 wq_X20_59 (.inr (by exact hl0)) ?_
  refine kz_aload_n (M := kt_M231) kX20_begin_c4.2.1 rfl ?_
  refine kz_null (M := kt_M231) kX20_begin_c4.2.2.1 ?_
  refine kz_pfp (M := kt_M231) (n := none) (c := 17) (o := x0) kX20_begin_c4.2.2.2.1 wq_X20_62 (.inr (by exact hl0)) ?_
  refine kz_aload_n (M := kt_M231) kX20_begin_c4.2.2.2.2.1 rfl ?_
  refine kz_ic (M := kt_M231) 0 kX20_begin_c4.2.2.2.2.2.1 rfl ?_
  refine kz_pfi (M := kt_M231) (c := 17) (o := x0) kX20_begin_c4.2.2.2.2.2.2.1 wq_X20_65 (.inr (by exact hl0)) ?_
  refine kz_aload_n (M := kt_M231) kX20_begin_c4.2.2.2.2.2.2.2.1 rfl ?_
  refine kz_ic (M := kt_M231) 0 kX20_begin_c5.1 rfl ?_
  refine kz_pfi (M := kt_M231) (c := 17) (o := x0) kX20_begin_c5.2.1 wq_X20_68 (.inr (by exact hl0)) ?_
  refine kz_aload_n (M := kt_M231) kX20_begin_c5.2.2.1 rfl ?_
  refine kz_ic (M := kt_M231) 0 kX20_begin_c5.2.2.2.1 rfl ?_
  refine kz_pfi (M := kt_M231) (c := 17) (o := x0) kX20_begin_c5.2.2.2.2.1 wq_X20_71 (.inr (by exact hl0)) ?_
  refine kz_aload_n (M := kt_M231) kX20_begin_c5.2.2.2.2.2.1 rfl ?_
  refine kz_ic (M := kt_M231) 0 kX20_begin_c5.2.2.2.2.2.2.1 rfl ?_
  refine kz_pfz (M := kt_M231) (c := 17) (o := x0) kX20_begin_c5.2.2.2.2.2.2.2.1 wq_X20_74 (.inr (by exact hl0)) (by decide) ?_
  refine kz_aload_n (M := kt_M231) kX20_begin_c6.1 rfl ?_
  refine kz_ic (M := kt_M231) 0 kX20_begin_c6.2.1 rfl ?_
  refine kz_pfz (M := kt_M231) (c := 17) (o := x0) kX20_begin_c6.2.2.1 wq_X20_78 (.inr (by exact hl0)) (by decide) ?_
  refine kz_aload_n (M := kt_M231) kX20_begin_c6.2.2.2.1 rfl ?_
  exact kz_areto (x := some (w_adr E.2.1 17 x0)) (M := kt_M231) kX20_begin_c6.2.2.2.2.1 rfl h
