/-! ===== methods over the typed state (printed by tools/gen_lift.py) ===== -/
set_option maxRecDepth 100000
theorem zs_X6_115 {E : zE} : ∃ r n d, kx_fl (zV E) "MeetingHouse$Names" 115 = some (r, n, d) ∧ kx_sv (zV E) r n d = some (va_rf (some (E.1.1 57))) := ⟨_, _, _, (show kt_get kt_flA "MeetingHouse$Names" 115 = some ("MeetingHouse$What", "PROTOCOL", "LMeetingHouse$What;") from by decide +kernel), kx_sv_E.trans (kw_sv_en zen_57)⟩
theorem zs_X6_143 {E : zE} : ∃ r n d, kx_fl (zV E) "MeetingHouse$Names" 143 = some (r, n, d) ∧ kx_sv (zV E) r n d = some (va_rf (some (E.1.1 55))) := ⟨_, _, _, (show kt_get kt_flA "MeetingHouse$Names" 143 = some ("MeetingHouse$What", "VALUE", "LMeetingHouse$What;") from by decide +kernel), kx_sv_E.trans (kw_sv_en zen_55)⟩
theorem zs_X6_157 {E : zE} : ∃ r n d, kx_fl (zV E) "MeetingHouse$Names" 157 = some (r, n, d) ∧ kx_sv (zV E) r n d = some (va_rf (some (E.1.1 54))) := ⟨_, _, _, (show kt_get kt_flA "MeetingHouse$Names" 157 = some ("MeetingHouse$What", "VARIABLE", "LMeetingHouse$What;") from by decide +kernel), kx_sv_E.trans (kw_sv_en zen_54)⟩
theorem zs_X6_177 {E : zE} : ∃ r n d, kx_fl (zV E) "MeetingHouse$Names" 177 = some (r, n, d) ∧ kx_sv (zV E) r n d = some (va_rf (some (E.1.1 27))) := ⟨_, _, _, (show kt_get kt_flA "MeetingHouse$Names" 177 = some ("MeetingHouse$Kind", "TIMERS", "LMeetingHouse$Kind;") from by decide +kernel), kx_sv_E.trans (kw_sv_en zen_27)⟩
theorem zs_X6_180 {E : zE} : ∃ r n d, kx_fl (zV E) "MeetingHouse$Names" 180 = some (r, n, d) ∧ kx_sv (zV E) r n d = some (va_rf (some (E.1.1 58))) := ⟨_, _, _, (show kt_get kt_flA "MeetingHouse$Names" 180 = some ("MeetingHouse$What", "TIMER", "LMeetingHouse$What;") from by decide +kernel), kx_sv_E.trans (kw_sv_en zen_58)⟩
theorem zs_X6_183 {E : zE} : ∃ r n d, kx_fl (zV E) "MeetingHouse$Names" 183 = some (r, n, d) ∧ kx_sv (zV E) r n d = some (va_rf (some (E.1.1 26))) := ⟨_, _, _, (show kt_get kt_flA "MeetingHouse$Names" 183 = some ("MeetingHouse$Kind", "CHANNELS", "LMeetingHouse$Kind;") from by decide +kernel), kx_sv_E.trans (kw_sv_en zen_26)⟩
theorem zs_X6_186 {E : zE} : ∃ r n d, kx_fl (zV E) "MeetingHouse$Names" 186 = some (r, n, d) ∧ kx_sv (zV E) r n d = some (va_rf (some (E.1.1 29))) := ⟨_, _, _, (show kt_get kt_flA "MeetingHouse$Names" 186 = some ("MeetingHouse$Kind", "PROTOCOL", "LMeetingHouse$Kind;") from by decide +kernel), kx_sv_E.trans (kw_sv_en zen_29)⟩
theorem zs_X6_196 {E : zE} : ∃ r n d, kx_fl (zV E) "MeetingHouse$Names" 196 = some (r, n, d) ∧ kx_sv (zV E) r n d = some (va_rf (some (E.1.1 59))) := ⟨_, _, _, (show kt_get kt_flA "MeetingHouse$Names" 196 = some ("MeetingHouse$What", "TAG", "LMeetingHouse$What;") from by decide +kernel), kx_sv_E.trans (kw_sv_en zen_59)⟩
theorem zs_X6_211 {E : zE} : ∃ r n d, kx_fl (zV E) "MeetingHouse$Names" 211 = some (r, n, d) ∧ kx_sv (zV E) r n d = some (va_rf (some (E.1.1 11))) := ⟨_, _, _, (show kt_get kt_flA "MeetingHouse$Names" 211 = some ("MeetingHouse$Kind", "FUNCTION", "LMeetingHouse$Kind;") from by decide +kernel), kx_sv_E.trans (kw_sv_en zen_11)⟩
theorem zs_X6_214 {E : zE} : ∃ r n d, kx_fl (zV E) "MeetingHouse$Names" 214 = some (r, n, d) ∧ kx_sv (zV E) r n d = some (va_rf (some (E.1.1 33))) := ⟨_, _, _, (show kt_get kt_flA "MeetingHouse$Names" 214 = some ("MeetingHouse$Kind", "PROC", "LMeetingHouse$Kind;") from by decide +kernel), kx_sv_E.trans (kw_sv_en zen_33)⟩
theorem zs_X6_223 {E : zE} : ∃ r n d, kx_fl (zV E) "MeetingHouse$Names" 223 = some (r, n, d) ∧ kx_sv (zV E) r n d = some (va_rf (some (E.1.1 60))) := ⟨_, _, _, (show kt_get kt_flA "MeetingHouse$Names" 223 = some ("MeetingHouse$What", "PROC", "LMeetingHouse$What;") from by decide +kernel), kx_sv_E.trans (kw_sv_en zen_60)⟩
theorem zs_X6_225 {E : zE} : ∃ r n d, kx_fl (zV E) "MeetingHouse$Names" 225 = some (r, n, d) ∧ kx_sv (zV E) r n d = some (va_rf (some (E.1.1 56))) := ⟨_, _, _, (show kt_get kt_flA "MeetingHouse$Names" 225 = some ("MeetingHouse$What", "FUNCTION", "LMeetingHouse$What;") from by decide +kernel), kx_sv_E.trans (kw_sv_en zen_56)⟩
theorem zs_X6_234 {E : zE} : ∃ r n d, kx_fl (zV E) "MeetingHouse$Names" 234 = some (r, n, d) ∧ kx_sv (zV E) r n d = some (va_rf (some (E.1.1 38))) := ⟨_, _, _, (show kt_get kt_flA "MeetingHouse$Names" 234 = some ("MeetingHouse$Kind", "DELAY", "LMeetingHouse$Kind;") from by decide +kernel), kx_sv_E.trans (kw_sv_en zen_38)⟩
theorem zs_X6_237 {E : zE} : ∃ r n d, kx_fl (zV E) "MeetingHouse$Names" 237 = some (r, n, d) ∧ kx_sv (zV E) r n d = some (va_rf (some (E.1.1 40))) := ⟨_, _, _, (show kt_get kt_flA "MeetingHouse$Names" 237 = some ("MeetingHouse$Kind", "INPUT", "LMeetingHouse$Kind;") from by decide +kernel), kx_sv_E.trans (kw_sv_en zen_40)⟩
theorem zs_X6_264 {E : zE} : ∃ r n d, kx_fl (zV E) "MeetingHouse$Names" 264 = some (r, n, d) ∧ kx_sv (zV E) r n d = some (va_rf (some (E.1.1 50))) := ⟨_, _, _, (show kt_get kt_flA "MeetingHouse$Names" 264 = some ("MeetingHouse$Kind", "WHILE", "LMeetingHouse$Kind;") from by decide +kernel), kx_sv_E.trans (kw_sv_en zen_50)⟩
theorem zs_X6_270 {E : zE} : ∃ r n d, kx_fl (zV E) "MeetingHouse$Names" 270 = some (r, n, d) ∧ kx_sv (zV E) r n d = some (va_rf (some (E.1.1 18))) := ⟨_, _, _, (show kt_get kt_flA "MeetingHouse$Names" 270 = some ("MeetingHouse$Kind", "ELEMENT", "LMeetingHouse$Kind;") from by decide +kernel), kx_sv_E.trans (kw_sv_en zen_18)⟩
theorem zs_X6_31 {E : zE} : ∃ r n d, kx_fl (zV E) "MeetingHouse$Names" 31 = some (r, n, d) ∧ kx_sv (zV E) r n d = some (va_rf (some (E.1.1 53))) := ⟨_, _, _, (show kt_get kt_flA "MeetingHouse$Names" 31 = some ("MeetingHouse$What", "CHANNEL", "LMeetingHouse$What;") from by decide +kernel), kx_sv_E.trans (kw_sv_en zen_53)⟩
theorem wq_X6_121 {adE adK adV : Nat → Nat} {zr : Nat → Value} {b L0 : Nat} {xs : Nat → Int32} {lo : Nat} : wP (kw_V adE adK adV zr b L0 xs lo) wG "MeetingHouse$Names" 121 15 15 2 (.object "MeetingHouse$Symbol") := wPb_ok (by decide +kernel) wf_X6_121 (r := "MeetingHouse$Symbol") (n := "protocol") (d := "LMeetingHouse$Symbol;") (by decide +kernel) (by decide +kernel)
theorem wq_X6_151 {adE adK adV : Nat → Nat} {zr : Nat → Value} {b L0 : Nat} {xs : Nat → Int32} {lo : Nat} : wP (kw_V adE adK adV zr b L0 xs lo) wG "MeetingHouse$Names" 151 15 9 0 .boolean := wPb_ok (by decide +kernel) wf_X6_151 (r := "MeetingHouse$Symbol") (n := "array") (d := "Z") (by decide +kernel) (by decide +kernel)
theorem wq_X6_154 {adE adK adV : Nat → Nat} {zr : Nat → Value} {b L0 : Nat} {xs : Nat → Int32} {lo : Nat} : wP (kw_V adE adK adV zr b L0 xs lo) wG "MeetingHouse$Names" 154 15 19 2 (.object "MeetingHouse$Node") := wPb_ok (by decide +kernel) wf_X6_154 (r := "MeetingHouse$Symbol") (n := "node") (d := "LMeetingHouse$Node;") (by decide +kernel) (by decide +kernel)
theorem wq_X6_167 {adE adK adV : Nat → Nat} {zr : Nat → Value} {b L0 : Nat} {xs : Nat → Int32} {lo : Nat} : wP (kw_V adE adK adV zr b L0 xs lo) wG "MeetingHouse$Names" 167 15 14 0 .boolean := wPb_ok (by decide +kernel) wf_X6_167 (r := "MeetingHouse$Symbol") (n := "abbreviation") (d := "Z") (by decide +kernel) (by decide +kernel)
theorem wq_X6_170 {adE adK adV : Nat → Nat} {zr : Nat → Value} {b L0 : Nat} {xs : Nat → Int32} {lo : Nat} : wP (kw_V adE adK adV zr b L0 xs lo) wG "MeetingHouse$Names" 170 15 18 2 (.object "MeetingHouse$Node") := wPb_ok (by decide +kernel) wf_X6_170 (r := "MeetingHouse$Symbol") (n := "element") (d := "LMeetingHouse$Node;") (by decide +kernel) (by decide +kernel)
theorem wq_X6_191 {adE adK adV : Nat → Nat} {zr : Nat → Value} {b L0 : Nat} {xs : Nat → Int32} {lo : Nat} : wP (kw_V adE adK adV zr b L0 xs lo) wG "MeetingHouse$Names" 191 15 17 2 (.object "MeetingHouse$Node") := wPb_ok (by decide +kernel) wf_X6_191 (r := "MeetingHouse$Symbol") (n := "parts") (d := "LMeetingHouse$Node;") (by decide +kernel) (by decide +kernel)
theorem wq_X6_193 {adE adK adV : Nat → Nat} {zr : Nat → Value} {b L0 : Nat} {xs : Nat → Int32} {lo : Nat} : wP (kw_V adE adK adV zr b L0 xs lo) wG "MeetingHouse$Names" 193 15 16 0 .boolean := wPb_ok (by decide +kernel) wf_X6_193 (r := "MeetingHouse$Symbol") (n := "tagged") (d := "Z") (by decide +kernel) (by decide +kernel)
theorem wq_X6_199 {adE adK adV : Nat → Nat} {zr : Nat → Value} {b L0 : Nat} {xs : Nat → Int32} {lo : Nat} : wP (kw_V adE adK adV zr b L0 xs lo) wG "MeetingHouse$Names" 199 15 8 0 .int := wPb_ok (by decide +kernel) wf_X6_199 (r := "MeetingHouse$Symbol") (n := "number") (d := "I") (by decide +kernel) (by decide +kernel)
theorem wq_X6_205 {adE adK adV : Nat → Nat} {zr : Nat → Value} {b L0 : Nat} {xs : Nat → Int32} {lo : Nat} : wP (kw_V adE adK adV zr b L0 xs lo) wG "MeetingHouse$Names" 205 15 11 0 .boolean := wPb_ok (by decide +kernel) wf_X6_205 (r := "MeetingHouse$Symbol") (n := "formal") (d := "Z") (by decide +kernel) (by decide +kernel)
theorem wq_X6_208 {adE adK adV : Nat → Nat} {zr : Nat → Value} {b L0 : Nat} {xs : Nat → Int32} {lo : Nat} : wP (kw_V adE adK adV zr b L0 xs lo) wG "MeetingHouse$Names" 208 15 12 0 .boolean := wPb_ok (by decide +kernel) wf_X6_208 (r := "MeetingHouse$Symbol") (n := "formalVal") (d := "Z") (by decide +kernel) (by decide +kernel)
theorem wq_X6_262 {adE adK adV : Nat → Nat} {zr : Nat → Value} {b L0 : Nat} {xs : Nat → Int32} {lo : Nat} : wP (kw_V adE adK adV zr b L0 xs lo) wG "MeetingHouse$Names" 262 15 13 0 .boolean := wPb_ok (by decide +kernel) wf_X6_262 (r := "MeetingHouse$Symbol") (n := "replicator") (d := "Z") (by decide +kernel) (by decide +kernel)
theorem wq_X6_43 {adE adK adV : Nat → Nat} {zr : Nat → Value} {b L0 : Nat} {xs : Nat → Int32} {lo : Nat} : wP (kw_V adE adK adV zr b L0 xs lo) wG "MeetingHouse$Names" 43 5 5 2 (.object "MeetingHouse$Symbol") := wPb_ok (by decide +kernel) wf_X6_43 (r := "MeetingHouse$Names") (n := "screen") (d := "LMeetingHouse$Symbol;") (by decide +kernel) (by decide +kernel)
theorem wq_X6_51 {adE adK adV : Nat → Nat} {zr : Nat → Value} {b L0 : Nat} {xs : Nat → Int32} {lo : Nat} : wP (kw_V adE adK adV zr b L0 xs lo) wG "MeetingHouse$Names" 51 5 6 2 (.object "MeetingHouse$Symbol") := wPb_ok (by decide +kernel) wf_X6_51 (r := "MeetingHouse$Names") (n := "keyboard") (d := "LMeetingHouse$Symbol;") (by decide +kernel) (by decide +kernel)
def zb_X6_look_p0 (E : zE) (L : Nat) (Q : kx_Rs → wS → Prop) (x1 : Option Nat) (w : wS) : Prop := zw E (L - 24) kt_M137 [.ref (w_adr E.2.1 5 0), va_rf (some (E.1.1 53)), .int 36, .int 0] (ws_i (ws_p w 5 0 3 none) 5 0 4 0) (wkr (fun v2 w1 => wle (ws_i (ws_p w 5 0 3 none) 5 0 4 0) w1 → (∃ p3, v2 = some p3 ∧ w_l (ws_p w1 5 0 5 v2) E.2.1 15 p3 ∧ zw E (L - 24) kt_M137 [.ref (w_adr E.2.1 5 0), va_rf (some (E.1.1 53)), .int 37, .int 0] (ws_i (ws_p w1 5 0 5 v2) 15 p3 5 2) (wkr (fun v5 w4 => wle (ws_i (ws_p w1 5 0 5 v2) 15 p3 5 2) w4 → (∃ p6, v5 = some p6 ∧ w_l (ws_p w4 5 0 6 v5) E.2.1 15 p6 ∧ zw E (L - 23) kt_M149 [.ref (w_adr E.2.1 5 0), va_rf (x1)] (ws_i (ws_p w4 5 0 6 v5) 15 p6 5 1) (wk0 (fun w7 => wle (ws_i (ws_p w4 5 0 6 v5) 15 p6 5 1) w7 → Q (.inl none) w7) (fun e w => Q (.inr e) w)))) (fun e w => Q (.inr e) w)))) (fun e w => Q (.inr e) w))
theorem zt_X6_look_p0 {E : zE} {L : Nat} {Q : kx_Rs → wS → Prop} {x1 : Option Nat} {w : wS} (hL : 24 ≤ L) (h : zb_X6_look_p0 E L Q x1 w) : kzE E L kt_M146 0 [(0, .ref (w_adr E.2.1 5 0)), (1, va_rf (x1))] [] w Q := by
  unfold zb_X6_look_p0 at h
  refine kz_aload_n (M := kt_M146) kX6_look_c0.1 rfl ?_
  refine kz_null (M := kt_M146) kX6_look_c0.2.1 ?_
  refine kz_pfp (M := kt_M146) (n := none) (c := 5) (o := 0) kX6_look_c0.2.2.1 wq_X6_23 (.inl rfl) ?_
  refine kz_aload_n (M := kt_M146) kX6_look_c0.2.2.2.1 rfl ?_
  refine kz_ic (M := kt_M146) 0 kX6_look_c0.2.2.2.2.1 rfl ?_
  refine kz_pfi (M := kt_M146) (c := 5) (o := 0) kX6_look_c0.2.2.2.2.2.1 wq_X6_27 (.inl rfl) ?_
  refine kz_aload_n (M := kt_M146) kX6_look_c0.2.2.2.2.2.2.1 rfl ?_
  refine kz_aload_n (M := kt_M146) kX6_look_c0.2.2.2.2.2.2.2.1 rfl ?_
  refine kz_getsE (M := kt_M146) (v := va_rf (some (E.1.1 53))) kX6_look_c1.1 zs_X6_31 ?_
  refine kz_bi (M := kt_M146) 36 kX6_look_c1.2.1 rfl ?_
  refine kz_ic (M := kt_M146) 0 kX6_look_c1.2.2.1 rfl ?_
  refine kz_cvr (M := kt_M146) (c := 5) (o := 0) (As := [va_rf (some (E.1.1 53)), .int 36, .int 0]) (rest := [.ref (w_adr E.2.1 5 0)]) kX6_look_c1.2.2.2.1 wl_X6_39 wMv_137 rfl (.inl rfl) rfl (Nat.le_trans (Nat.le_of_ble_eq_true rfl) hL) (by simp [lg_sl, w_cat, z_ci, z_cr, z_cl, z_cn, kt_M137]) (Nat.le_of_ble_eq_true rfl) h (fun v2 w1 hle h => ?_) (fun _ _ _ h => kzx_no rfl h)
  have h := h hle
  refine kz_pfp (M := kt_M146) (n := v2) (c := 5) (o := 0) kX6_look_c1.2.2.2.2.1 wq_X6_43 (.inl rfl) ?_
  refine kz_aload_n (M := kt_M146) kX6_look_c1.2.2.2.2.2.1 rfl ?_
  refine kz_gfpR (M := kt_M146) (c := 5) (o := 0) v2 kX6_look_c1.2.2.2.2.2.2.1 wf_X6_43 (.inl rfl) rd_p_e ?_
  refine kz_ic (M := kt_M146) 2 kX6_look_c1.2.2.2.2.2.2.2.1 rfl ?_
  obtain ⟨p3, hxp3, hlp3, h⟩ := h
  refine kz_nz1 (x := v2) hxp3 ?_
  refine kz_pfi (M := kt_M146) (c := 15) (o := p3) kX6_look_c2.1 wq_X6_46 (.inr (by exact hlp3)) ?_
  refine kz_aload_n (M := kt_M146) kX6_look_c2.2.1 rfl ?_
  refine kz_aload_n (M := kt_M146) kX6_look_c2.2.2.1 rfl ?_
  refine kz_getsE (M := kt_M146) (v := va_rf (some (E.1.1 53))) kX6_look_c2.2.2.2.1 zs_X6_31 ?_
  refine kz_bi (M := kt_M146) 37 kX6_look_c2.2.2.2.2.1 rfl ?_
  refine kz_ic (M := kt_M146) 0 kX6_look_c2.2.2.2.2.2.1 rfl ?_
  refine kz_cvr (M := kt_M146) (c := 5) (o := 0) (As := [va_rf (some (E.1.1 53)), .int 37, .int 0]) (rest := [.ref (w_adr E.2.1 5 0)]) kX6_look_c2.2.2.2.2.2.2.1 wl_X6_39 wMv_137 rfl (.inl rfl) rfl (Nat.le_trans (Nat.le_of_ble_eq_true rfl) hL) (by simp [lg_sl, w_cat, z_ci, z_cr, z_cl, z_cn, kt_M137]) (Nat.le_of_ble_eq_true rfl) h (fun v5 w4 hle h => ?_) (fun _ _ _ h => kzx_no rfl h)
  have h := h hle
  have hlp3 := w_l_le hlp3 hle
  refine kz_pfp (M := kt_M146) (n := v5) (c := 5) (o := 0) kX6_look_c2.2.2.2.2.2.2.2.1 wq_X6_51 (.inl rfl) ?_
  refine kz_aload_n (M := kt_M146) kX6_look_c3.1 rfl ?_
  refine kz_gfpR (M := kt_M146) (c := 5) (o := 0) v5 kX6_look_c3.2.1 wf_X6_51 (.inl rfl) rd_p_e ?_
  refine kz_ic (M := kt_M146) 1 kX6_look_c3.2.2.1 rfl ?_
  obtain ⟨p6, hxp6, hlp6, h⟩ := h
  refine kz_nz1 (x := v5) hxp6 ?_
  refine kz_pfi (M := kt_M146) (c := 15) (o := p6) kX6_look_c3.2.2.2.1 wq_X6_46 (.inr (by exact hlp6)) ?_
  refine kz_aload_n (M := kt_M146) kX6_look_c3.2.2.2.2.1 rfl ?_
  refine kz_aload_nv (M := kt_M146) (x := x1) kX6_look_c3.2.2.2.2.2.1 rfl ?_
  refine kz_cv0 (M := kt_M146) (c := 5) (o := 0) (As := [va_rf (x1)]) (rest := []) kX6_look_c3.2.2.2.2.2.2.1 wl_X6_54 wMv_149 rfl (.inl rfl) rfl (Nat.le_trans (Nat.le_of_ble_eq_true rfl) hL) (by simp [lg_sl, w_cat, z_ci, z_cr, z_cl, z_cn, kt_M149]) (Nat.le_of_ble_eq_true rfl) h (fun w7 hle h => ?_) (fun _ _ _ h => kzx_no rfl h)
  have h := h hle
  have hlp3 := w_l_le hlp3 hle
  have hlp6 := w_l_le hlp6 hle
  exact kz_ret (M := kt_M146) kX6_look_c3.2.2.2.2.2.2.2.1 rfl h
def zb_X6_declaration_p271 (E : zE) (L : Nat) (Q : kx_Rs → wS → Prop) (w : wS) : Prop := Q (.inl none) w
theorem zt_X6_declaration_p271 {E : zE} {L : Nat} {Q : kx_Rs → wS → Prop} {w : wS} (hL : 25 ≤ L) (h : zb_X6_declaration_p271 E L Q  w) : kzE E L kt_M136 271 [(0, .ref (w_adr E.2.1 5 0))] [] w Q := by
  unfold zb_X6_declaration_p271 at h
  exact kz_ret (M := kt_M136) kX6_declaration_c14.2.1 rfl h
def zb_X6_declaration_p183 (E : zE) (L : Nat) (Q : kx_Rs → wS → Prop) (x1 : Option Nat) (y0 : Option Nat) (w : wS) : Prop := (∃ p1, x1 = some p1 ∧ w_l w E.2.1 14 p1 ∧ zw E (L - 24) kt_M226 [.ref (w_adr E.2.1 3 0), va_rf (y0), .int (w_i w 14 p1 9), .int (w_i w 14 p1 2)] w (wkr (fun v3 w2 => wle w w2 → zw E (L - 22) kt_M145 [.ref (w_adr E.2.1 5 0), va_rf (x1), va_rf (v3)] w2 (wk0 (fun w4 => wle w2 w4 → (∃ p6, v3 = some p6 ∧ w_l w4 E.2.1 15 p6 ∧ ((w_i w4 14 p1 13 = 0 ∨ w_i w4 14 p1 13 = 1) ∧ zb_X6_declaration_p271 E L Q (ws_p (ws_p (ws_i (ws_i (ws_p (ws_i (ws_i (ws_p w4 15 p6 4 (w_p w4 5 0 3)) 5 0 4 ((w_i w4 5 0 4) + 1)) 15 p6 3 (w_i w4 5 0 4)) 5 0 3 v3) 15 p6 9 (w_i w4 14 p1 13)) 15 p6 14 1) 15 p6 18 (w_p w4 14 p1 3)) 14 p1 16 v3)))) (fun e w => Q (.inr e) w))) (fun e w => Q (.inr e) w)))
theorem zt_X6_declaration_p183 {E : zE} {L : Nat} {Q : kx_Rs → wS → Prop} {x1 : Option Nat} {y0 : Option Nat} {w : wS} (hL : 25 ≤ L) (h : zb_X6_declaration_p183 E L Q x1 y0 w) : kzE E L kt_M136 183 [(0, .ref (w_adr E.2.1 5 0)), (1, va_rf (x1))] [va_rf (y0), .ref (w_adr E.2.1 3 0)] w Q := by
  unfold zb_X6_declaration_p183 at h
  refine kz_aload_nv (M := kt_M136) (x := x1) kX6_declaration_c8.2.1 rfl ?_
  obtain ⟨p1, hxp1, hlp1, h⟩ := h
  refine kz_nz0 (x := x1) hxp1 ?_
  refine kz_gfi (M := kt_M136) (c := 14) (o := p1) kX6_declaration_c8.2.2.1 wf_X6_83 (.inr (by exact hlp1)) ?_
  refine kz_aload_nv (M := kt_M136) (x := x1) kX6_declaration_c8.2.2.2.1 rfl ?_
  refine kz_nz0 (x := x1) hxp1 ?_
  refine kz_gfi (M := kt_M136) (c := 14) (o := p1) kX6_declaration_c8.2.2.2.2.1 wf_X6_86 (.inr (by exact hlp1)) ?_
  refine kz_cvr (M := kt_M136) (c := 3) (o := 0) (As := [va_rf (y0), .int (w_i w 14 p1 9), .int (w_i w 14 p1 2)]) (rest := []) kX6_declaration_c8.2.2.2.2.2.1 wl_X6_58 wMv_226 rfl (.inl rfl) rfl (Nat.le_trans (Nat.le_of_ble_eq_true rfl) hL) (by simp [lg_sl, w_cat, z_ci, z_cr, z_cl, z_cn, kt_M226]) (Nat.le_of_ble_eq_true rfl) h (fun v3 w2 hle h => ?_) (fun _ _ _ h => kzx_no rfl h)
  have h := h hle
  have hlp1 := w_l_le hlp1 hle
  refine kz_stv_n (M := kt_M136) (x := v3) [(0, .ref (w_adr E.2.1 5 0)), (1, va_rf (x1))] kX6_declaration_c8.2.2.2.2.2.2.1 (Nat.le_of_ble_eq_true rfl) ⟨⟨rfl, rfl, .inl rfl⟩, ⟨⟨rfl, rfl, .inr (w_cat (x1))⟩, trivial⟩⟩ rfl ?_
  refine kz_aload_n (M := kt_M136) kX6_declaration_c8.2.2.2.2.2.2.2.1 rfl ?_
  refine kz_aload_nv (M := kt_M136) (x := x1) kX6_declaration_c9.1 rfl ?_
  refine kz_aload_nv (M := kt_M136) (x := v3) kX6_declaration_c9.2.1 rfl ?_
  refine kz_cv0 (M := kt_M136) (c := 5) (o := 0) (As := [va_rf (x1), va_rf (v3)]) (rest := []) kX6_declaration_c9.2.2.1 wl_X6_164 wMv_145 rfl (.inl rfl) rfl (Nat.le_trans (Nat.le_of_ble_eq_true rfl) hL) (by simp [lg_sl, w_cat, z_ci, z_cr, z_cl, z_cn, kt_M145]) (Nat.le_of_ble_eq_true rfl) h (fun w4 hle h => ?_) (fun _ _ _ h => kzx_no rfl h)
  have h := h hle
  have hlp1 := w_l_le hlp1 hle
  refine kz_aload_nv (M := kt_M136) (x := v3) kX6_declaration_c9.2.2.2.1 rfl ?_
  refine kz_aload_n (M := kt_M136) kX6_declaration_c9.2.2.2.2.1 rfl ?_
  refine kz_gfp (M := kt_M136) (c := 5) (o := 0) kX6_declaration_c9.2.2.2.2.2.1 wf_X6_23 (.inl rfl) ?_
  obtain ⟨p6, hxp6, hlp6, h⟩ := h
  refine kz_nz1 (x := v3) hxp6 ?_
  refine kz_pfp (M := kt_M136) (n := w_p w4 5 0 3) (c := 15) (o := p6) kX6_declaration_c9.2.2.2.2.2.2.1 wq_X6_63 (.inr (by exact hlp6)) ?_
  refine kz_aload_nv (M := kt_M136) (x := v3) kX6_declaration_c9.2.2.2.2.2.2.2.1 rfl ?_
  refine kz_aload_n (M := kt_M136) kX6_declaration_c10.1 rfl ?_
  refine kz_dup (M := kt_M136) kX6_declaration_c10.2.1 rfl ?_
  refine kz_gfiR (M := kt_M136) (c := 5) (o := 0) (w_i w4 5 0 4) kX6_declaration_c10.2.2.1 wf_X6_27 (.inl rfl) rd_i_p ?_
  refine kz_dup_x1 (M := kt_M136) kX6_declaration_c10.2.2.2.1 ⟨rfl, rfl⟩ ?_
  refine kz_ic (M := kt_M136) 1 kX6_declaration_c10.2.2.2.2.1 rfl ?_
  refine kz_iadd (M := kt_M136) kX6_declaration_c10.2.2.2.2.2.1 ?_
  refine kz_pfi (M := kt_M136) (c := 5) (o := 0) kX6_declaration_c10.2.2.2.2.2.2.1 wq_X6_27 (.inl rfl) ?_
  refine kz_nz1 (x := v3) hxp6 ?_
  refine kz_pfi (M := kt_M136) (c := 15) (o := p6) kX6_declaration_c10.2.2.2.2.2.2.2.1 wq_X6_66 (.inr (by exact hlp6)) ?_
  refine kz_aload_n (M := kt_M136) kX6_declaration_c11.1 rfl ?_
  refine kz_aload_nv (M := kt_M136) (x := v3) kX6_declaration_c11.2.1 rfl ?_
  refine kz_pfp (M := kt_M136) (n := v3) (c := 5) (o := 0) kX6_declaration_c11.2.2.1 wq_X6_23 (.inl rfl) ?_
  refine kz_aload_nv (M := kt_M136) (x := v3) kX6_declaration_c11.2.2.2.1 rfl ?_
  refine kz_aload_nv (M := kt_M136) (x := x1) kX6_declaration_c11.2.2.2.2.1 rfl ?_
  refine kz_nz0 (x := x1) hxp1 ?_
  refine kz_gfiR (M := kt_M136) (c := 14) (o := p1) (w_i w4 14 p1 13) kX6_declaration_c11.2.2.2.2.2.1 wf_X6_148 (.inr (by exact hlp1)) (rd_i_p.trans ((rd_i_i rfl).trans ((rd_i_i rfl).trans rd_i_p))) ?_
  refine kz_nz1 (x := v3) hxp6 ?_
  obtain ⟨h0, h⟩ := h
  refine kz_pfz (M := kt_M136) (c := 15) (o := p6) kX6_declaration_c11.2.2.2.2.2.2.1 wq_X6_151 (.inr (by exact hlp6)) h0 ?_
  refine kz_aload_nv (M := kt_M136) (x := v3) kX6_declaration_c11.2.2.2.2.2.2.2.1 rfl ?_
  refine kz_ic (M := kt_M136) 1 kX6_declaration_c12.1 rfl ?_
  refine kz_nz1 (x := v3) hxp6 ?_
  refine kz_pfz (M := kt_M136) (c := 15) (o := p6) kX6_declaration_c12.2.1 wq_X6_167 (.inr (by exact hlp6)) (by decide) ?_
  refine kz_aload_nv (M := kt_M136) (x := v3) kX6_declaration_c12.2.2.1 rfl ?_
  refine kz_aload_nv (M := kt_M136) (x := x1) kX6_declaration_c12.2.2.2.1 rfl ?_
  refine kz_nz0 (x := x1) hxp1 ?_
  refine kz_gfpR (M := kt_M136) (c := 14) (o := p1) (w_p w4 14 p1 3) kX6_declaration_c12.2.2.2.2.1 wf_X6_93 (.inr (by exact hlp1)) (rd_p_i.trans (rd_p_i.trans ((rd_p_pc rfl).trans (rd_p_i.trans (rd_p_i.trans (rd_p_p rfl)))))) ?_
  refine kz_nz1 (x := v3) hxp6 ?_
  refine kz_pfp (M := kt_M136) (n := w_p w4 14 p1 3) (c := 15) (o := p6) kX6_declaration_c12.2.2.2.2.2.1 wq_X6_170 (.inr (by exact hlp6)) ?_
  refine kz_aload_nv (M := kt_M136) (x := x1) kX6_declaration_c12.2.2.2.2.2.2.1 rfl ?_
  refine kz_aload_nv (M := kt_M136) (x := v3) kX6_declaration_c12.2.2.2.2.2.2.2.1 rfl ?_
  refine kz_nz1 (x := x1) hxp1 ?_
  refine kz_pfp (M := kt_M136) (n := v3) (c := 14) (o := p1) kX6_declaration_c13.1 wq_X6_146 (.inr (by exact hlp1)) ?_
  refine kz_goto (M := kt_M136) kX6_declaration_c13.2.1 (t := 271) rfl ?_
  exact kz_weak [(0, .ref (w_adr E.2.1 5 0))] ⟨rfl, trivial⟩ rfl (zt_X6_declaration_p271 hL  h)
def zb_X6_declaration_p160 (E : zE) (L : Nat) (Q : kx_Rs → wS → Prop) (x1 : Option Nat) (y0 : Option Nat) (y1 : Option Nat) (w : wS) : Prop := zw E (L - 22) kt_M138 [.ref (w_adr E.2.1 5 0), va_rf (y1), va_rf (y0)] w (wk0 (fun w1 => wle w w1 → (∃ p3, x1 = some p3 ∧ w_l w1 E.2.1 14 p3 ∧ (if w_i w1 14 p3 14 = 0 then zb_X6_declaration_p183 E L Q x1 (some (E.1.1 54)) w1 else zb_X6_declaration_p183 E L Q x1 (some (E.1.1 53)) w1))) (fun e w => Q (.inr e) w))
theorem zt_X6_declaration_p160 {E : zE} {L : Nat} {Q : kx_Rs → wS → Prop} {x1 : Option Nat} {y0 : Option Nat} {y1 : Option Nat} {w : wS} (hL : 25 ≤ L) (h : zb_X6_declaration_p160 E L Q x1 y0 y1 w) : kzE E L kt_M136 160 [(0, .ref (w_adr E.2.1 5 0)), (1, va_rf (x1))] [va_rf (y0), va_rf (y1), .ref (w_adr E.2.1 5 0)] w Q := by
  unfold zb_X6_declaration_p160 at h
  refine kz_cv0 (M := kt_M136) (c := 5) (o := 0) (As := [va_rf (y1), va_rf (y0)]) (rest := []) kX6_declaration_c7.1 wl_X6_160 wMv_138 rfl (.inl rfl) rfl (Nat.le_trans (Nat.le_of_ble_eq_true rfl) hL) (by simp [lg_sl, w_cat, z_ci, z_cr, z_cl, z_cn, kt_M138]) (Nat.le_of_ble_eq_true rfl) h (fun w1 hle h => ?_) (fun _ _ _ h => kzx_no rfl h)
  have h := h hle
  refine kz_aload_n (M := kt_M136) kX6_declaration_c7.2.1 rfl ?_
  refine kz_gfc (M := kt_M136) (x := 12) (c := 5) (o := 0) kX6_declaration_c7.2.2.1 wf_X6_19 (.inl rfl) ?_
  refine kz_aload_nv (M := kt_M136) (x := x1) kX6_declaration_c7.2.2.2.1 rfl ?_
  obtain ⟨p3, hxp3, hlp3, h⟩ := h
  refine kz_nz0 (x := x1) hxp3 ?_
  refine kz_gfi (M := kt_M136) (c := 14) (o := p3) kX6_declaration_c7.2.2.2.2.1 wf_X6_108 (.inr (by exact hlp3)) ?_
  refine kz_if_eq (M := kt_M136) kX6_declaration_c7.2.2.2.2.2.1 (t := 180) rfl h (fun h => ?_) (fun h => ?_)
  · skip
    refine kz_getsE (M := kt_M136) (v := va_rf (some (E.1.1 54))) kX6_declaration_c8.1 zs_X6_157 ?_
    exact kz_weak [(0, .ref (w_adr E.2.1 5 0)), (1, va_rf (x1))] ⟨rfl, ⟨rfl, trivial⟩⟩ rfl (zt_X6_declaration_p183 hL  h)
  · skip
    refine kz_getsE (M := kt_M136) (v := va_rf (some (E.1.1 53))) kX6_declaration_c7.2.2.2.2.2.2.1 zs_X6_31 ?_
    refine kz_goto (M := kt_M136) kX6_declaration_c7.2.2.2.2.2.2.2.1 (t := 183) rfl ?_
    exact kz_weak [(0, .ref (w_adr E.2.1 5 0)), (1, va_rf (x1))] ⟨rfl, ⟨rfl, trivial⟩⟩ rfl (zt_X6_declaration_p183 hL  h)
def zb_X6_declaration_p71 (E : zE) (L : Nat) (Q : kx_Rs → wS → Prop) (x1 : Option Nat) (w : wS) : Prop := zw E (L - 24) kt_M154 [.ref (w_adr E.2.1 5 0), va_rf (x1)] w (wk0 (fun w1 => wle w w1 → zb_X6_declaration_p271 E L Q w1) (fun e w => Q (.inr e) w))
theorem zt_X6_declaration_p71 {E : zE} {L : Nat} {Q : kx_Rs → wS → Prop} {x1 : Option Nat} {w : wS} (hL : 25 ≤ L) (h : zb_X6_declaration_p71 E L Q x1 w) : kzE E L kt_M136 71 [(0, .ref (w_adr E.2.1 5 0)), (1, va_rf (x1))] [] w Q := by
  unfold zb_X6_declaration_p71 at h
  refine kz_aload_n (M := kt_M136) kX6_declaration_c1.2.2.2.2.2.2.2.1 rfl ?_
  refine kz_aload_nv (M := kt_M136) (x := x1) kX6_declaration_c2.1 rfl ?_
  refine kz_cv0 (M := kt_M136) (c := 5) (o := 0) (As := [va_rf (x1)]) (rest := []) kX6_declaration_c2.2.1 wl_X6_140 wMv_154 rfl (.inl rfl) rfl (Nat.le_trans (Nat.le_of_ble_eq_true rfl) hL) (by simp [lg_sl, w_cat, z_ci, z_cr, z_cl, z_cn, kt_M154]) (Nat.le_of_ble_eq_true rfl) h (fun w1 hle h => ?_) (fun _ _ _ h => kzx_no rfl h)
  have h := h hle
  refine kz_goto (M := kt_M136) kX6_declaration_c2.2.2.1 (t := 271) rfl ?_
  exact kz_weak [(0, .ref (w_adr E.2.1 5 0))] ⟨rfl, trivial⟩ rfl (zt_X6_declaration_p271 hL  h)
def zb_X6_declaration_p0 (E : zE) (L : Nat) (Q : kx_Rs → wS → Prop) (x1 : Option Nat) (w : wS) : Prop := (∃ p1, x1 = some p1 ∧ w_l w E.2.1 14 p1 ∧ (∃ i2, zO E "MeetingHouse$Kind" (w_p w 14 p1 0) i2 ∧ (if (kw_on i2) = 1 then zw E (L - 23) kt_M132 [.ref (w_adr E.2.1 5 0), va_rf (w_p w 14 p1 4)] w (wk0 (fun w3 => wle w w3 → (if (w_p w3 14 p1 3) = none then zb_X6_declaration_p71 E L Q x1 w3 else zw E (L - 21) kt_M140 [.ref (w_adr E.2.1 5 0), va_rf (w_p w3 14 p1 3)] w3 (wk0 (fun w5 => wle w3 w5 → zb_X6_declaration_p71 E L Q x1 w5) (fun e w => Q (.inr e) w)))) (fun e w => Q (.inr e) w)) else (if (kw_on i2) = 2 then zw E (L - 23) kt_M132 [.ref (w_adr E.2.1 5 0), va_rf (w_p w 14 p1 4)] w (wk0 (fun w7 => wle w w7 → (if (w_p w7 14 p1 3) = none then zb_X6_declaration_p71 E L Q x1 w7 else zw E (L - 21) kt_M140 [.ref (w_adr E.2.1 5 0), va_rf (w_p w7 14 p1 3)] w7 (wk0 (fun w9 => wle w7 w9 → zb_X6_declaration_p71 E L Q x1 w9) (fun e w => Q (.inr e) w)))) (fun e w => Q (.inr e) w)) else (if (kw_on i2) = 3 then zw E (L - 23) kt_M132 [.ref (w_adr E.2.1 5 0), va_rf (w_p w 14 p1 4)] w (wk0 (fun w11 => wle w w11 → (if (w_p w11 14 p1 3) = none then zb_X6_declaration_p71 E L Q x1 w11 else zw E (L - 21) kt_M140 [.ref (w_adr E.2.1 5 0), va_rf (w_p w11 14 p1 3)] w11 (wk0 (fun w13 => wle w11 w13 → zb_X6_declaration_p71 E L Q x1 w13) (fun e w => Q (.inr e) w)))) (fun e w => Q (.inr e) w)) else (if (kw_on i2) = 4 then zw E (L - 21) kt_M140 [.ref (w_adr E.2.1 5 0), va_rf (w_p w 14 p1 3)] w (wk0 (fun w15 => wle w w15 → zw E (L - 24) kt_M137 [.ref (w_adr E.2.1 5 0), va_rf (some (E.1.1 55)), .int (w_i w15 14 p1 9), .int (w_i w15 14 p1 2)] w15 (wkr (fun v18 w17 => wle w15 w17 → (∃ p19, v18 = some p19 ∧ w_l (ws_p w17 14 p1 16 v18) E.2.1 15 p19 ∧ ((w_i w17 14 p1 13 = 0 ∨ w_i w17 14 p1 13 = 1) ∧ zb_X6_declaration_p271 E L Q (ws_p (ws_i (ws_i (ws_p w17 14 p1 16 v18) 15 p19 5 (w_i w17 14 p1 8)) 15 p19 9 (w_i w17 14 p1 13)) 15 p19 19 x1)))) (fun e w => Q (.inr e) w))) (fun e w => Q (.inr e) w)) else (if (kw_on i2) = 5 then (if w_i w 14 p1 14 = 0 then zb_X6_declaration_p160 E L Q x1 (some (E.1.1 54)) (w_p w 14 p1 3) w else zb_X6_declaration_p160 E L Q x1 (some (E.1.1 53)) (w_p w 14 p1 3) w) else (if (kw_on i2) = 6 then zw E (L - 23) kt_M150 [.ref (w_adr E.2.1 5 0), va_rf (x1)] w (wk0 (fun w20 => wle w w20 → zb_X6_declaration_p271 E L Q w20) (fun e w => Q (.inr e) w)) else (if (kw_on i2) = 7 then zw E (L - 23) kt_M150 [.ref (w_adr E.2.1 5 0), va_rf (x1)] w (wk0 (fun w22 => wle w w22 → zb_X6_declaration_p271 E L Q w22) (fun e w => Q (.inr e) w)) else zw E (L - 25) kt_M153 [.ref (w_adr E.2.1 5 0), va_rf (x1)] w (wk0 (fun w24 => wle w w24 → zb_X6_declaration_p271 E L Q w24) (fun e w => Q (.inr e) w)))))))))))
theorem zt_X6_declaration_p0 {E : zE} {L : Nat} {Q : kx_Rs → wS → Prop} {x1 : Option Nat} {w : wS} (hL : 25 ≤ L) (h : zb_X6_declaration_p0 E L Q x1 w) : kzE E L kt_M136 0 [(0, .ref (w_adr E.2.1 5 0)), (1, va_rf (x1))] [] w Q := by
  unfold zb_X6_declaration_p0 at h
  refine kz_aload_nv (M := kt_M136) (x := x1) kX6_declaration_c0.1 rfl ?_
  obtain ⟨p1, hxp1, hlp1, h⟩ := h
  refine kz_nz0 (x := x1) hxp1 ?_
  refine kz_gfp (M := kt_M136) (c := 14) (o := p1) kX6_declaration_c0.2.1 wf_X6_124 (.inr (by exact hlp1)) ?_
  obtain ⟨i2, ho, h⟩ := h
  refine kz_ord (M := kt_M136) (x := w_p w 14 p1 0) (i := i2) (C := "MeetingHouse$Kind") kX6_declaration_c0.2.2.1 zo_l_X6 zo_m_X6 zo_s_Kind zo_u_X6 (Nat.le_trans (Nat.le_of_ble_eq_true rfl) hL) (Nat.le_of_ble_eq_true rfl) ho ?_
  refine kz_tsw (M := kt_M136) [(1, 48), (2, 48), (3, 48), (4, 79), (5, 139), (6, 258), (7, 258)] [_, _, _, _, _, _, _] 266 dX6_declaration_p7 (by decide +kernel) h ⟨fun h => ?_, fun h => ?_, fun h => ?_, fun h => ?_, fun h => ?_, fun h => ?_, fun h => ?_, trivial⟩ (fun h => ?_)
  · skip
    refine kz_aload_n (M := kt_M136) kX6_declaration_c0.2.2.2.2.1 rfl ?_
    refine kz_aload_nv (M := kt_M136) (x := x1) kX6_declaration_c0.2.2.2.2.2.1 rfl ?_
    refine kz_nz0 (x := x1) hxp1 ?_
    refine kz_gfp (M := kt_M136) (c := 14) (o := p1) kX6_declaration_c0.2.2.2.2.2.2.1 wf_X6_99 (.inr (by exact hlp1)) ?_
    refine kz_cv0 (M := kt_M136) (c := 5) (o := 0) (As := [va_rf (w_p w 14 p1 4)]) (rest := []) kX6_declaration_c0.2.2.2.2.2.2.2.1 wl_X6_134 wMv_132 rfl (.inl rfl) rfl (Nat.le_trans (Nat.le_of_ble_eq_true rfl) hL) (by simp [lg_sl, w_cat, z_ci, z_cr, z_cl, z_cn, kt_M132]) (Nat.le_of_ble_eq_true rfl) h (fun w3 hle h => ?_) (fun _ _ _ h => kzx_no rfl h)
    have h := h hle
    have hlp1 := w_l_le hlp1 hle
    refine kz_aload_nv (M := kt_M136) (x := x1) kX6_declaration_c1.1 rfl ?_
    refine kz_nz0 (x := x1) hxp1 ?_
    refine kz_gfp (M := kt_M136) (c := 14) (o := p1) kX6_declaration_c1.2.1 wf_X6_93 (.inr (by exact hlp1)) ?_
    refine kz_ifnull (M := kt_M136) (x := w_p w3 14 p1 3) kX6_declaration_c1.2.2.1 (t := 71) rfl h (fun h => ?_) (fun h => ?_)
    · skip
      exact kz_weak [(0, .ref (w_adr E.2.1 5 0)), (1, va_rf (x1))] ⟨rfl, ⟨rfl, trivial⟩⟩ rfl (zt_X6_declaration_p71 hL  h)
    · skip
      refine kz_aload_n (M := kt_M136) kX6_declaration_c1.2.2.2.1 rfl ?_
      refine kz_aload_nv (M := kt_M136) (x := x1) kX6_declaration_c1.2.2.2.2.1 rfl ?_
      refine kz_nz0 (x := x1) hxp1 ?_
      refine kz_gfp (M := kt_M136) (c := 14) (o := p1) kX6_declaration_c1.2.2.2.2.2.1 wf_X6_93 (.inr (by exact hlp1)) ?_
      refine kz_cv0 (M := kt_M136) (c := 5) (o := 0) (As := [va_rf (w_p w3 14 p1 3)]) (rest := []) kX6_declaration_c1.2.2.2.2.2.2.1 wl_X6_137 wMv_140 rfl (.inl rfl) rfl (Nat.le_trans (Nat.le_of_ble_eq_true rfl) hL) (by simp [lg_sl, w_cat, z_ci, z_cr, z_cl, z_cn, kt_M140]) (Nat.le_of_ble_eq_true rfl) h (fun w5 hle h => ?_) (fun _ _ _ h => kzx_no rfl h)
      have h := h hle
      have hlp1 := w_l_le hlp1 hle
      exact kz_weak [(0, .ref (w_adr E.2.1 5 0)), (1, va_rf (x1))] ⟨rfl, ⟨rfl, trivial⟩⟩ rfl (zt_X6_declaration_p71 hL  h)
  · skip
    refine kz_aload_n (M := kt_M136) kX6_declaration_c0.2.2.2.2.1 rfl ?_
    refine kz_aload_nv (M := kt_M136) (x := x1) kX6_declaration_c0.2.2.2.2.2.1 rfl ?_
    refine kz_nz0 (x := x1) hxp1 ?_
    refine kz_gfp (M := kt_M136) (c := 14) (o := p1) kX6_declaration_c0.2.2.2.2.2.2.1 wf_X6_99 (.inr (by exact hlp1)) ?_
    refine kz_cv0 (M := kt_M136) (c := 5) (o := 0) (As := [va_rf (w_p w 14 p1 4)]) (rest := []) kX6_declaration_c0.2.2.2.2.2.2.2.1 wl_X6_134 wMv_132 rfl (.inl rfl) rfl (Nat.le_trans (Nat.le_of_ble_eq_true rfl) hL) (by simp [lg_sl, w_cat, z_ci, z_cr, z_cl, z_cn, kt_M132]) (Nat.le_of_ble_eq_true rfl) h (fun w7 hle h => ?_) (fun _ _ _ h => kzx_no rfl h)
    have h := h hle
    have hlp1 := w_l_le hlp1 hle
    refine kz_aload_nv (M := kt_M136) (x := x1) kX6_declaration_c1.1 rfl ?_
    refine kz_nz0 (x := x1) hxp1 ?_
    refine kz_gfp (M := kt_M136) (c := 14) (o := p1) kX6_declaration_c1.2.1 wf_X6_93 (.inr (by exact hlp1)) ?_
    refine kz_ifnull (M := kt_M136) (x := w_p w7 14 p1 3) kX6_declaration_c1.2.2.1 (t := 71) rfl h (fun h => ?_) (fun h => ?_)
    · skip
      exact kz_weak [(0, .ref (w_adr E.2.1 5 0)), (1, va_rf (x1))] ⟨rfl, ⟨rfl, trivial⟩⟩ rfl (zt_X6_declaration_p71 hL  h)
    · skip
      refine kz_aload_n (M := kt_M136) kX6_declaration_c1.2.2.2.1 rfl ?_
      refine kz_aload_nv (M := kt_M136) (x := x1) kX6_declaration_c1.2.2.2.2.1 rfl ?_
      refine kz_nz0 (x := x1) hxp1 ?_
      refine kz_gfp (M := kt_M136) (c := 14) (o := p1) kX6_declaration_c1.2.2.2.2.2.1 wf_X6_93 (.inr (by exact hlp1)) ?_
      refine kz_cv0 (M := kt_M136) (c := 5) (o := 0) (As := [va_rf (w_p w7 14 p1 3)]) (rest := []) kX6_declaration_c1.2.2.2.2.2.2.1 wl_X6_137 wMv_140 rfl (.inl rfl) rfl (Nat.le_trans (Nat.le_of_ble_eq_true rfl) hL) (by simp [lg_sl, w_cat, z_ci, z_cr, z_cl, z_cn, kt_M140]) (Nat.le_of_ble_eq_true rfl) h (fun w9 hle h => ?_) (fun _ _ _ h => kzx_no rfl h)
      have h := h hle
      have hlp1 := w_l_le hlp1 hle
      exact kz_weak [(0, .ref (w_adr E.2.1 5 0)), (1, va_rf (x1))] ⟨rfl, ⟨rfl, trivial⟩⟩ rfl (zt_X6_declaration_p71 hL  h)
  · skip
    refine kz_aload_n (M := kt_M136) kX6_declaration_c0.2.2.2.2.1 rfl ?_
    refine kz_aload_nv (M := kt_M136) (x := x1) kX6_declaration_c0.2.2.2.2.2.1 rfl ?_
    refine kz_nz0 (x := x1) hxp1 ?_
    refine kz_gfp (M := kt_M136) (c := 14) (o := p1) kX6_declaration_c0.2.2.2.2.2.2.1 wf_X6_99 (.inr (by exact hlp1)) ?_
    refine kz_cv0 (M := kt_M136) (c := 5) (o := 0) (As := [va_rf (w_p w 14 p1 4)]) (rest := []) kX6_declaration_c0.2.2.2.2.2.2.2.1 wl_X6_134 wMv_132 rfl (.inl rfl) rfl (Nat.le_trans (Nat.le_of_ble_eq_true rfl) hL) (by simp [lg_sl, w_cat, z_ci, z_cr, z_cl, z_cn, kt_M132]) (Nat.le_of_ble_eq_true rfl) h (fun w11 hle h => ?_) (fun _ _ _ h => kzx_no rfl h)
    have h := h hle
    have hlp1 := w_l_le hlp1 hle
    refine kz_aload_nv (M := kt_M136) (x := x1) kX6_declaration_c1.1 rfl ?_
    refine kz_nz0 (x := x1) hxp1 ?_
    refine kz_gfp (M := kt_M136) (c := 14) (o := p1) kX6_declaration_c1.2.1 wf_X6_93 (.inr (by exact hlp1)) ?_
    refine kz_ifnull (M := kt_M136) (x := w_p w11 14 p1 3) kX6_declaration_c1.2.2.1 (t := 71) rfl h (fun h => ?_) (fun h => ?_)
    · skip
      exact kz_weak [(0, .ref (w_adr E.2.1 5 0)), (1, va_rf (x1))] ⟨rfl, ⟨rfl, trivial⟩⟩ rfl (zt_X6_declaration_p71 hL  h)
    · skip
      refine kz_aload_n (M := kt_M136) kX6_declaration_c1.2.2.2.1 rfl ?_
      refine kz_aload_nv (M := kt_M136) (x := x1) kX6_declaration_c1.2.2.2.2.1 rfl ?_
      refine kz_nz0 (x := x1) hxp1 ?_
      refine kz_gfp (M := kt_M136) (c := 14) (o := p1) kX6_declaration_c1.2.2.2.2.2.1 wf_X6_93 (.inr (by exact hlp1)) ?_
      refine kz_cv0 (M := kt_M136) (c := 5) (o := 0) (As := [va_rf (w_p w11 14 p1 3)]) (rest := []) kX6_declaration_c1.2.2.2.2.2.2.1 wl_X6_137 wMv_140 rfl (.inl rfl) rfl (Nat.le_trans (Nat.le_of_ble_eq_true rfl) hL) (by simp [lg_sl, w_cat, z_ci, z_cr, z_cl, z_cn, kt_M140]) (Nat.le_of_ble_eq_true rfl) h (fun w13 hle h => ?_) (fun _ _ _ h => kzx_no rfl h)
      have h := h hle
      have hlp1 := w_l_le hlp1 hle
      exact kz_weak [(0, .ref (w_adr E.2.1 5 0)), (1, va_rf (x1))] ⟨rfl, ⟨rfl, trivial⟩⟩ rfl (zt_X6_declaration_p71 hL  h)
  · skip
    refine kz_aload_n (M := kt_M136) kX6_declaration_c2.2.2.2.1 rfl ?_
    refine kz_aload_nv (M := kt_M136) (x := x1) kX6_declaration_c2.2.2.2.2.1 rfl ?_
    refine kz_nz0 (x := x1) hxp1 ?_
    refine kz_gfp (M := kt_M136) (c := 14) (o := p1) kX6_declaration_c2.2.2.2.2.2.1 wf_X6_93 (.inr (by exact hlp1)) ?_
    refine kz_cv0 (M := kt_M136) (c := 5) (o := 0) (As := [va_rf (w_p w 14 p1 3)]) (rest := []) kX6_declaration_c2.2.2.2.2.2.2.1 wl_X6_137 wMv_140 rfl (.inl rfl) rfl (Nat.le_trans (Nat.le_of_ble_eq_true rfl) hL) (by simp [lg_sl, w_cat, z_ci, z_cr, z_cl, z_cn, kt_M140]) (Nat.le_of_ble_eq_true rfl) h (fun w15 hle h => ?_) (fun _ _ _ h => kzx_no rfl h)
    have h := h hle
    have hlp1 := w_l_le hlp1 hle
    refine kz_aload_nv (M := kt_M136) (x := x1) kX6_declaration_c2.2.2.2.2.2.2.2.1 rfl ?_
    refine kz_aload_n (M := kt_M136) kX6_declaration_c3.1 rfl ?_
    refine kz_getsE (M := kt_M136) (v := va_rf (some (E.1.1 55))) kX6_declaration_c3.2.1 zs_X6_143 ?_
    refine kz_aload_nv (M := kt_M136) (x := x1) kX6_declaration_c3.2.2.1 rfl ?_
    refine kz_nz0 (x := x1) hxp1 ?_
    refine kz_gfi (M := kt_M136) (c := 14) (o := p1) kX6_declaration_c3.2.2.2.1 wf_X6_83 (.inr (by exact hlp1)) ?_
    refine kz_aload_nv (M := kt_M136) (x := x1) kX6_declaration_c3.2.2.2.2.1 rfl ?_
    refine kz_nz0 (x := x1) hxp1 ?_
    refine kz_gfi (M := kt_M136) (c := 14) (o := p1) kX6_declaration_c3.2.2.2.2.2.1 wf_X6_86 (.inr (by exact hlp1)) ?_
    refine kz_cvr (M := kt_M136) (c := 5) (o := 0) (As := [va_rf (some (E.1.1 55)), .int (w_i w15 14 p1 9), .int (w_i w15 14 p1 2)]) (rest := [va_rf (x1)]) kX6_declaration_c3.2.2.2.2.2.2.1 wl_X6_39 wMv_137 rfl (.inl rfl) rfl (Nat.le_trans (Nat.le_of_ble_eq_true rfl) hL) (by simp [lg_sl, w_cat, z_ci, z_cr, z_cl, z_cn, kt_M137]) (by simp [kx_cat, w_cat, z_ci, z_cr, z_cl, z_cn]) h (fun v18 w17 hle h => ?_) (fun _ _ _ h => kzx_no rfl h)
    have h := h hle
    have hlp1 := w_l_le hlp1 hle
    refine kz_nz1 (x := x1) hxp1 ?_
    refine kz_pfp (M := kt_M136) (n := v18) (c := 14) (o := p1) kX6_declaration_c3.2.2.2.2.2.2.2.1 wq_X6_146 (.inr (by exact hlp1)) ?_
    refine kz_aload_nv (M := kt_M136) (x := x1) kX6_declaration_c4.1 rfl ?_
    refine kz_nz0 (x := x1) hxp1 ?_
    refine kz_gfpR (M := kt_M136) (c := 14) (o := p1) v18 kX6_declaration_c4.2.1 wf_X6_146 (.inr (by exact hlp1)) rd_p_e ?_
    refine kz_aload_nv (M := kt_M136) (x := x1) kX6_declaration_c4.2.2.1 rfl ?_
    refine kz_nz0 (x := x1) hxp1 ?_
    refine kz_gfiR (M := kt_M136) (c := 14) (o := p1) (w_i w17 14 p1 8) kX6_declaration_c4.2.2.2.1 wf_X6_105 (.inr (by exact hlp1)) rd_i_p ?_
    obtain ⟨p19, hxp19, hlp19, h⟩ := h
    refine kz_nz1 (x := v18) hxp19 ?_
    refine kz_pfi (M := kt_M136) (c := 15) (o := p19) kX6_declaration_c4.2.2.2.2.1 wq_X6_46 (.inr (by exact hlp19)) ?_
    refine kz_aload_nv (M := kt_M136) (x := x1) kX6_declaration_c4.2.2.2.2.2.1 rfl ?_
    refine kz_nz0 (x := x1) hxp1 ?_
    refine kz_gfpR (M := kt_M136) (c := 14) (o := p1) v18 kX6_declaration_c4.2.2.2.2.2.2.1 wf_X6_146 (.inr (by exact hlp1)) (rd_p_i.trans rd_p_e) ?_
    refine kz_aload_nv (M := kt_M136) (x := x1) kX6_declaration_c4.2.2.2.2.2.2.2.1 rfl ?_
    refine kz_nz0 (x := x1) hxp1 ?_
    refine kz_gfiR (M := kt_M136) (c := 14) (o := p1) (w_i w17 14 p1 13) kX6_declaration_c5.1 wf_X6_148 (.inr (by exact hlp1)) ((rd_i_i rfl).trans rd_i_p) ?_
    refine kz_nz1 (x := v18) hxp19 ?_
    obtain ⟨h0, h⟩ := h
    refine kz_pfz (M := kt_M136) (c := 15) (o := p19) kX6_declaration_c5.2.1 wq_X6_151 (.inr (by exact hlp19)) h0 ?_
    refine kz_aload_nv (M := kt_M136) (x := x1) kX6_declaration_c5.2.2.1 rfl ?_
    refine kz_nz0 (x := x1) hxp1 ?_
    refine kz_gfpR (M := kt_M136) (c := 14) (o := p1) v18 kX6_declaration_c5.2.2.2.1 wf_X6_146 (.inr (by exact hlp1)) (rd_p_i.trans (rd_p_i.trans rd_p_e)) ?_
    refine kz_aload_nv (M := kt_M136) (x := x1) kX6_declaration_c5.2.2.2.2.1 rfl ?_
    refine kz_nz1 (x := v18) hxp19 ?_
    refine kz_pfp (M := kt_M136) (n := x1) (c := 15) (o := p19) kX6_declaration_c5.2.2.2.2.2.1 wq_X6_154 (.inr (by exact hlp19)) ?_
    refine kz_goto (M := kt_M136) kX6_declaration_c5.2.2.2.2.2.2.1 (t := 271) rfl ?_
    exact kz_weak [(0, .ref (w_adr E.2.1 5 0))] ⟨rfl, trivial⟩ rfl (zt_X6_declaration_p271 hL  h)
  · skip
    refine kz_aload_n (M := kt_M136) kX6_declaration_c5.2.2.2.2.2.2.2.1 rfl ?_
    refine kz_aload_nv (M := kt_M136) (x := x1) kX6_declaration_c6.1 rfl ?_
    refine kz_nz0 (x := x1) hxp1 ?_
    refine kz_gfp (M := kt_M136) (c := 14) (o := p1) kX6_declaration_c6.2.1 wf_X6_93 (.inr (by exact hlp1)) ?_
    refine kz_aload_nv (M := kt_M136) (x := x1) kX6_declaration_c6.2.2.1 rfl ?_
    refine kz_nz0 (x := x1) hxp1 ?_
    refine kz_gfi (M := kt_M136) (c := 14) (o := p1) kX6_declaration_c6.2.2.2.1 wf_X6_108 (.inr (by exact hlp1)) ?_
    refine kz_if_eq (M := kt_M136) kX6_declaration_c6.2.2.2.2.1 (t := 157) rfl h (fun h => ?_) (fun h => ?_)
    · skip
      refine kz_getsE (M := kt_M136) (v := va_rf (some (E.1.1 54))) kX6_declaration_c6.2.2.2.2.2.2.2.1 zs_X6_157 ?_
      exact kz_weak [(0, .ref (w_adr E.2.1 5 0)), (1, va_rf (x1))] ⟨rfl, ⟨rfl, trivial⟩⟩ rfl (zt_X6_declaration_p160 hL  h)
    · skip
      refine kz_getsE (M := kt_M136) (v := va_rf (some (E.1.1 53))) kX6_declaration_c6.2.2.2.2.2.1 zs_X6_31 ?_
      refine kz_goto (M := kt_M136) kX6_declaration_c6.2.2.2.2.2.2.1 (t := 160) rfl ?_
      exact kz_weak [(0, .ref (w_adr E.2.1 5 0)), (1, va_rf (x1))] ⟨rfl, ⟨rfl, trivial⟩⟩ rfl (zt_X6_declaration_p160 hL  h)
  · skip
    refine kz_aload_n (M := kt_M136) kX6_declaration_c13.2.2.1 rfl ?_
    refine kz_aload_nv (M := kt_M136) (x := x1) kX6_declaration_c13.2.2.2.1 rfl ?_
    refine kz_cv0 (M := kt_M136) (c := 5) (o := 0) (As := [va_rf (x1)]) (rest := []) kX6_declaration_c13.2.2.2.2.1 wl_X6_172 wMv_150 rfl (.inl rfl) rfl (Nat.le_trans (Nat.le_of_ble_eq_true rfl) hL) (by simp [lg_sl, w_cat, z_ci, z_cr, z_cl, z_cn, kt_M150]) (Nat.le_of_ble_eq_true rfl) h (fun w20 hle h => ?_) (fun _ _ _ h => kzx_no rfl h)
    have h := h hle
    have hlp1 := w_l_le hlp1 hle
    refine kz_goto (M := kt_M136) kX6_declaration_c13.2.2.2.2.2.1 (t := 271) rfl ?_
    exact kz_weak [(0, .ref (w_adr E.2.1 5 0))] ⟨rfl, trivial⟩ rfl (zt_X6_declaration_p271 hL  h)
  · skip
    refine kz_aload_n (M := kt_M136) kX6_declaration_c13.2.2.1 rfl ?_
    refine kz_aload_nv (M := kt_M136) (x := x1) kX6_declaration_c13.2.2.2.1 rfl ?_
    refine kz_cv0 (M := kt_M136) (c := 5) (o := 0) (As := [va_rf (x1)]) (rest := []) kX6_declaration_c13.2.2.2.2.1 wl_X6_172 wMv_150 rfl (.inl rfl) rfl (Nat.le_trans (Nat.le_of_ble_eq_true rfl) hL) (by simp [lg_sl, w_cat, z_ci, z_cr, z_cl, z_cn, kt_M150]) (Nat.le_of_ble_eq_true rfl) h (fun w22 hle h => ?_) (fun _ _ _ h => kzx_no rfl h)
    have h := h hle
    have hlp1 := w_l_le hlp1 hle
    refine kz_goto (M := kt_M136) kX6_declaration_c13.2.2.2.2.2.1 (t := 271) rfl ?_
    exact kz_weak [(0, .ref (w_adr E.2.1 5 0))] ⟨rfl, trivial⟩ rfl (zt_X6_declaration_p271 hL  h)
  · skip
    refine kz_aload_n (M := kt_M136) kX6_declaration_c13.2.2.2.2.2.2.1 rfl ?_
    refine kz_aload_nv (M := kt_M136) (x := x1) kX6_declaration_c13.2.2.2.2.2.2.2.1 rfl ?_
    refine kz_cv0 (M := kt_M136) (c := 5) (o := 0) (As := [va_rf (x1)]) (rest := []) kX6_declaration_c14.1 wl_X6_174 wMv_153 rfl (.inl rfl) rfl (Nat.le_trans (Nat.le_of_ble_eq_true rfl) hL) (by simp [lg_sl, w_cat, z_ci, z_cr, z_cl, z_cn, kt_M153]) (Nat.le_of_ble_eq_true rfl) h (fun w24 hle h => ?_) (fun _ _ _ h => kzx_no rfl h)
    have h := h hle
    have hlp1 := w_l_le hlp1 hle
    exact kz_weak [(0, .ref (w_adr E.2.1 5 0))] ⟨rfl, trivial⟩ rfl (zt_X6_declaration_p271 hL  h)
def zL_X6_again_p8 (E : zE) (L : Nat) (Q : kx_Rs → wS → Prop) (x1 : Option Nat) (x2 : Option Nat) (x3 : Option Nat) (w : wS) : Prop := kzE E L kt_M132 8 [(0, .ref (w_adr E.2.1 5 0)), (1, va_rf (x1)), (2, va_rf (x2)), (3, va_rf (x3))] [] w Q
def zL_X6_again_p2 (E : zE) (L : Nat) (Q : kx_Rs → wS → Prop) (x1 : Option Nat) (x2 : Option Nat) (w : wS) : Prop := kzE E L kt_M132 2 [(0, .ref (w_adr E.2.1 5 0)), (1, va_rf (x1)), (2, va_rf (x2))] [] w Q
def zb_X6_again_p36 (E : zE) (L : Nat) (Q : kx_Rs → wS → Prop) (x1 : Option Nat) (x2 : Option Nat) (x3 : Option Nat) (w : wS) : Prop := (∃ p1, x3 = some p1 ∧ w_l w E.2.1 14 p1 ∧ zL_X6_again_p8 E L Q x1 x2 (w_p w 14 p1 7) w)
theorem zt_X6_again_p36 {E : zE} {L : Nat} {Q : kx_Rs → wS → Prop} {x1 : Option Nat} {x2 : Option Nat} {x3 : Option Nat} {w : wS} (hL : 22 ≤ L) (h : zb_X6_again_p36 E L Q x1 x2 x3 w) : kzE E L kt_M132 36 [(0, .ref (w_adr E.2.1 5 0)), (1, va_rf (x1)), (2, va_rf (x2)), (3, va_rf (x3))] [] w Q := by
  unfold zb_X6_again_p36 at h
  refine kz_aload_nv (M := kt_M132) (x := x3) kX6_again_c2.2.2.2.2.1 rfl ?_
  obtain ⟨p1, hxp1, hlp1, h⟩ := h
  refine kz_nz0 (x := x3) hxp1 ?_
  refine kz_gfp (M := kt_M132) (c := 14) (o := p1) kX6_again_c2.2.2.2.2.2.1 wf_X6_89 (.inr (by exact hlp1)) ?_
  refine kz_stv_n (M := kt_M132) (x := w_p w 14 p1 7) [(0, .ref (w_adr E.2.1 5 0)), (1, va_rf (x1)), (2, va_rf (x2))] kX6_again_c2.2.2.2.2.2.2.1 (Nat.le_of_ble_eq_true rfl) ⟨⟨rfl, rfl, .inl rfl⟩, ⟨⟨rfl, rfl, .inl rfl⟩, ⟨⟨rfl, rfl, .inr (w_cat (x2))⟩, trivial⟩⟩⟩ rfl ?_
  refine kz_goto (M := kt_M132) kX6_again_c2.2.2.2.2.2.2.2.1 (t := 8) rfl ?_
  exact kz_weak [(0, .ref (w_adr E.2.1 5 0)), (1, va_rf (x1)), (2, va_rf (x2)), (3, va_rf (w_p w 14 p1 7))] ⟨rfl, ⟨rfl, ⟨rfl, ⟨rfl, trivial⟩⟩⟩⟩ rfl h
def zb_X6_again_p8 (E : zE) (L : Nat) (Q : kx_Rs → wS → Prop) (x1 : Option Nat) (x2 : Option Nat) (x3 : Option Nat) (w : wS) : Prop := (if x3 = x2 then (∃ p1, x2 = some p1 ∧ w_l w E.2.1 14 p1 ∧ zL_X6_again_p2 E L Q x1 (w_p w 14 p1 7) w) else (∃ p2, x3 = some p2 ∧ w_l w E.2.1 14 p2 ∧ (∃ p3, x2 = some p3 ∧ w_l w E.2.1 14 p3 ∧ (if ¬ w_i w 14 p2 9 = w_i w 14 p3 9 then zb_X6_again_p36 E L Q x1 x2 x3 w else zw E (L - 22) kt_M56 [.ref (w_adr E.2.1 2 0), .int 4, .int (w_i w 14 p3 2)] w (wk0 (fun w4 => wle w w4 → zb_X6_again_p36 E L Q x1 x2 x3 w4) (fun e w => Q (.inr e) w))))))
theorem zt_X6_again_p8 {E : zE} {L : Nat} {Q : kx_Rs → wS → Prop} {x1 : Option Nat} {x2 : Option Nat} {x3 : Option Nat} {w : wS} (hL : 22 ≤ L) (h : zb_X6_again_p8 E L Q x1 x2 x3 w) : kzE E L kt_M132 8 [(0, .ref (w_adr E.2.1 5 0)), (1, va_rf (x1)), (2, va_rf (x2)), (3, va_rf (x3))] [] w Q := by
  unfold zb_X6_again_p8 at h
  refine kz_aload_nv (M := kt_M132) (x := x3) kX6_again_c0.2.2.2.2.2.2.1 rfl ?_
  refine kz_aload_nv (M := kt_M132) (x := x2) kX6_again_c0.2.2.2.2.2.2.2.1 rfl ?_
  refine kz_acmp_eq (M := kt_M132) (x := x3) (y := x2) kX6_again_c1.1 (t := 44) rfl h (fun h => ?_) (fun h => ?_)
  · skip
    refine kz_aload_nv (M := kt_M132) (x := x2) kX6_again_c3.1 rfl ?_
    obtain ⟨p1, hxp1, hlp1, h⟩ := h
    refine kz_nz0 (x := x2) hxp1 ?_
    refine kz_gfp (M := kt_M132) (c := 14) (o := p1) kX6_again_c3.2.1 wf_X6_89 (.inr (by exact hlp1)) ?_
    refine kz_stv_n (M := kt_M132) (x := w_p w 14 p1 7) [(0, .ref (w_adr E.2.1 5 0)), (1, va_rf (x1))] kX6_again_c3.2.2.1 (Nat.le_of_ble_eq_true rfl) ⟨⟨rfl, rfl, .inl rfl⟩, ⟨⟨rfl, rfl, .inr (w_cat (x1))⟩, trivial⟩⟩ rfl ?_
    refine kz_goto (M := kt_M132) kX6_again_c3.2.2.2.1 (t := 2) rfl ?_
    exact kz_weak [(0, .ref (w_adr E.2.1 5 0)), (1, va_rf (x1)), (2, va_rf (w_p w 14 p1 7))] ⟨rfl, ⟨rfl, ⟨rfl, trivial⟩⟩⟩ rfl h
  · skip
    refine kz_aload_nv (M := kt_M132) (x := x3) kX6_again_c1.2.1 rfl ?_
    obtain ⟨p2, hxp2, hlp2, h⟩ := h
    refine kz_nz0 (x := x3) hxp2 ?_
    refine kz_gfi (M := kt_M132) (c := 14) (o := p2) kX6_again_c1.2.2.1 wf_X6_83 (.inr (by exact hlp2)) ?_
    refine kz_aload_nv (M := kt_M132) (x := x2) kX6_again_c1.2.2.2.1 rfl ?_
    obtain ⟨p3, hxp3, hlp3, h⟩ := h
    refine kz_nz0 (x := x2) hxp3 ?_
    refine kz_gfi (M := kt_M132) (c := 14) (o := p3) kX6_again_c1.2.2.2.2.1 wf_X6_83 (.inr (by exact hlp3)) ?_
    refine kz_icmp_ne (M := kt_M132) kX6_again_c1.2.2.2.2.2.1 (t := 36) rfl h (fun h => ?_) (fun h => ?_)
    · skip
      exact kz_weak [(0, .ref (w_adr E.2.1 5 0)), (1, va_rf (x1)), (2, va_rf (x2)), (3, va_rf (x3))] ⟨rfl, ⟨rfl, ⟨rfl, ⟨rfl, trivial⟩⟩⟩⟩ rfl (zt_X6_again_p36 hL  h)
    · skip
      refine kz_aload_n (M := kt_M132) kX6_again_c1.2.2.2.2.2.2.1 rfl ?_
      refine kz_gfc (M := kt_M132) (x := 8) (c := 5) (o := 0) kX6_again_c1.2.2.2.2.2.2.2.1 wf_X6_15 (.inl rfl) ?_
      refine kz_ic (M := kt_M132) 4 kX6_again_c2.1 rfl ?_
      refine kz_aload_nv (M := kt_M132) (x := x2) kX6_again_c2.2.1 rfl ?_
      refine kz_nz0 (x := x2) hxp3 ?_
      refine kz_gfi (M := kt_M132) (c := 14) (o := p3) kX6_again_c2.2.2.1 wf_X6_86 (.inr (by exact hlp3)) ?_
      refine kz_cv0 (M := kt_M132) (c := 2) (o := 0) (As := [.int 4, .int (w_i w 14 p3 2)]) (rest := []) kX6_again_c2.2.2.2.1 wl_X6_70 wMv_56 rfl (.inl rfl) rfl (Nat.le_trans (Nat.le_of_ble_eq_true rfl) hL) (Nat.le_of_ble_eq_true rfl) (Nat.le_of_ble_eq_true rfl) h (fun w4 hle h => ?_) (fun _ _ _ h => kzx_no rfl h)
      have h := h hle
      have hlp2 := w_l_le hlp2 hle
      have hlp3 := w_l_le hlp3 hle
      exact kz_weak [(0, .ref (w_adr E.2.1 5 0)), (1, va_rf (x1)), (2, va_rf (x2)), (3, va_rf (x3))] ⟨rfl, ⟨rfl, ⟨rfl, ⟨rfl, trivial⟩⟩⟩⟩ rfl (zt_X6_again_p36 hL  h)
def zb_X6_again_p2 (E : zE) (L : Nat) (Q : kx_Rs → wS → Prop) (x1 : Option Nat) (x2 : Option Nat) (w : wS) : Prop := (if x2 = none then Q (.inl none) w else zL_X6_again_p8 E L Q x1 x2 x1 w)
theorem zt_X6_again_p2 {E : zE} {L : Nat} {Q : kx_Rs → wS → Prop} {x1 : Option Nat} {x2 : Option Nat} {w : wS} (hL : 22 ≤ L) (h : zb_X6_again_p2 E L Q x1 x2 w) : kzE E L kt_M132 2 [(0, .ref (w_adr E.2.1 5 0)), (1, va_rf (x1)), (2, va_rf (x2))] [] w Q := by
  unfold zb_X6_again_p2 at h
  refine kz_aload_nv (M := kt_M132) (x := x2) kX6_again_c0.2.2.1 rfl ?_
  refine kz_ifnull (M := kt_M132) (x := x2) kX6_again_c0.2.2.2.1 (t := 52) rfl h (fun h => ?_) (fun h => ?_)
  · skip
    exact kz_ret (M := kt_M132) kX6_again_c3.2.2.2.2.1 rfl h
  · skip
    refine kz_aload_nv (M := kt_M132) (x := x1) kX6_again_c0.2.2.2.2.1 rfl ?_
    refine kz_stv_n (M := kt_M132) (x := x1) [(0, .ref (w_adr E.2.1 5 0)), (1, va_rf (x1)), (2, va_rf (x2))] kX6_again_c0.2.2.2.2.2.1 (Nat.le_of_ble_eq_true rfl) ⟨⟨rfl, rfl, .inl rfl⟩, ⟨⟨rfl, rfl, .inl rfl⟩, ⟨⟨rfl, rfl, .inr (w_cat (x2))⟩, trivial⟩⟩⟩ rfl ?_
    exact kz_weak [(0, .ref (w_adr E.2.1 5 0)), (1, va_rf (x1)), (2, va_rf (x2)), (3, va_rf (x1))] ⟨rfl, ⟨rfl, ⟨rfl, ⟨rfl, trivial⟩⟩⟩⟩ rfl h
def zb_X6_again_p0 (E : zE) (L : Nat) (Q : kx_Rs → wS → Prop) (x1 : Option Nat) (w : wS) : Prop := zL_X6_again_p2 E L Q x1 x1 w
theorem zt_X6_again_p0 {E : zE} {L : Nat} {Q : kx_Rs → wS → Prop} {x1 : Option Nat} {w : wS} (hL : 22 ≤ L) (h : zb_X6_again_p0 E L Q x1 w) : kzE E L kt_M132 0 [(0, .ref (w_adr E.2.1 5 0)), (1, va_rf (x1))] [] w Q := by
  unfold zb_X6_again_p0 at h
  refine kz_aload_nv (M := kt_M132) (x := x1) kX6_again_c0.1 rfl ?_
  refine kz_stv_n (M := kt_M132) (x := x1) [(0, .ref (w_adr E.2.1 5 0)), (1, va_rf (x1))] kX6_again_c0.2.1 (Nat.le_of_ble_eq_true rfl) ⟨⟨rfl, rfl, .inl rfl⟩, ⟨⟨rfl, rfl, .inr (w_cat (x1))⟩, trivial⟩⟩ rfl ?_
  exact kz_weak [(0, .ref (w_adr E.2.1 5 0)), (1, va_rf (x1)), (2, va_rf (x1))] ⟨rfl, ⟨rfl, ⟨rfl, trivial⟩⟩⟩ rfl h
def zb_X6_expression_p165 (E : zE) (L : Nat) (Q : kx_Rs → wS → Prop) (w : wS) : Prop := Q (.inl none) w
theorem zt_X6_expression_p165 {E : zE} {L : Nat} {Q : kx_Rs → wS → Prop} {w : wS} (hL : 24 ≤ L) (h : zb_X6_expression_p165 E L Q  w) : kzE E L kt_M140 165 [(0, .ref (w_adr E.2.1 5 0))] [] w Q := by
  unfold zb_X6_expression_p165 at h
  exact kz_ret (M := kt_M140) kX6_expression_c7.2.2.2.1 rfl h
def zb_X6_expression_p120 (E : zE) (L : Nat) (Q : kx_Rs → wS → Prop) (x1 : Option Nat) (w : wS) : Prop := (∃ p1, x1 = some p1 ∧ w_l w E.2.1 14 p1 ∧ (if (w_p w 14 p1 16) = none then zb_X6_expression_p165 E L Q w else zw E (L - 21) kt_M155 [.ref (w_adr E.2.1 5 0), va_rf (x1)] w (wk0 (fun w2 => wle w w2 → zb_X6_expression_p165 E L Q w2) (fun e w => Q (.inr e) w))))
theorem zt_X6_expression_p120 {E : zE} {L : Nat} {Q : kx_Rs → wS → Prop} {x1 : Option Nat} {w : wS} (hL : 24 ≤ L) (h : zb_X6_expression_p120 E L Q x1 w) : kzE E L kt_M140 120 [(0, .ref (w_adr E.2.1 5 0)), (1, va_rf (x1))] [] w Q := by
  unfold zb_X6_expression_p120 at h
  refine kz_aload_nv (M := kt_M140) (x := x1) kX6_expression_c4.2.2.2.2.2.2.1 rfl ?_
  obtain ⟨p1, hxp1, hlp1, h⟩ := h
  refine kz_nz0 (x := x1) hxp1 ?_
  refine kz_gfp (M := kt_M140) (c := 14) (o := p1) kX6_expression_c4.2.2.2.2.2.2.2.1 wf_X6_146 (.inr (by exact hlp1)) ?_
  refine kz_ifnull (M := kt_M140) (x := w_p w 14 p1 16) kX6_expression_c5.1 (t := 165) rfl h (fun h => ?_) (fun h => ?_)
  · skip
    exact kz_weak [(0, .ref (w_adr E.2.1 5 0))] ⟨rfl, trivial⟩ rfl (zt_X6_expression_p165 hL  h)
  · skip
    refine kz_aload_n (M := kt_M140) kX6_expression_c5.2.1 rfl ?_
    refine kz_aload_nv (M := kt_M140) (x := x1) kX6_expression_c5.2.2.1 rfl ?_
    refine kz_cv0 (M := kt_M140) (c := 5) (o := 0) (As := [va_rf (x1)]) (rest := []) kX6_expression_c5.2.2.2.1 wl_X6_276 wMv_155 rfl (.inl rfl) rfl (Nat.le_trans (Nat.le_of_ble_eq_true rfl) hL) (by simp [lg_sl, w_cat, z_ci, z_cr, z_cl, z_cn, kt_M155]) (Nat.le_of_ble_eq_true rfl) h (fun w2 hle h => ?_) (fun _ _ _ h => kzx_no rfl h)
    have h := h hle
    have hlp1 := w_l_le hlp1 hle
    refine kz_goto (M := kt_M140) kX6_expression_c5.2.2.2.2.1 (t := 165) rfl ?_
    exact kz_weak [(0, .ref (w_adr E.2.1 5 0))] ⟨rfl, trivial⟩ rfl (zt_X6_expression_p165 hL  h)
def zb_X6_expression_p0 (E : zE) (L : Nat) (Q : kx_Rs → wS → Prop) (x1 : Option Nat) (w : wS) : Prop := (∃ p1, x1 = some p1 ∧ w_l w E.2.1 14 p1 ∧ (∃ i2, zO E "MeetingHouse$Kind" (w_p w 14 p1 0) i2 ∧ (if (kw_on i2) = 37 then zw E (L - 21) kt_M140 [.ref (w_adr E.2.1 5 0), va_rf (w_p w 14 p1 3)] w (wk0 (fun w3 => wle w w3 → zb_X6_expression_p165 E L Q w3) (fun e w => Q (.inr e) w)) else (if (kw_on i2) = 38 then zw E (L - 22) kt_M141 [.ref (w_adr E.2.1 5 0), va_rf (w_p w 14 p1 3)] w (wk0 (fun w5 => wle w w5 → zb_X6_expression_p165 E L Q w5) (fun e w => Q (.inr e) w)) else (if (kw_on i2) = 39 then zw E (L - 23) kt_M142 [.ref (w_adr E.2.1 5 0), .int (w_i w 14 p1 9), .int (w_i w 14 p1 2)] w (wkr (fun v8 w7 => wle w w7 → (if (w_p w7 14 p1 3) = none then zb_X6_expression_p120 E L Q x1 (ws_p w7 14 p1 16 v8) else zw E (L - 21) kt_M140 [.ref (w_adr E.2.1 5 0), va_rf (w_p w7 14 p1 3)] (ws_p w7 14 p1 16 v8) (wk0 (fun w9 => wle (ws_p w7 14 p1 16 v8) w9 → zb_X6_expression_p120 E L Q x1 w9) (fun e w => Q (.inr e) w)))) (fun e w => Q (.inr e) w)) else (if (kw_on i2) = 40 then zw E (L - 24) kt_M143 [.ref (w_adr E.2.1 5 0), .int (w_i w 14 p1 9), .int (w_i w 14 p1 2), va_rf (some (E.1.1 56))] w (wkr (fun v12 w11 => wle w w11 → zw E (L - 22) kt_M141 [.ref (w_adr E.2.1 5 0), va_rf (w_p w11 14 p1 4)] (ws_p w11 14 p1 16 v12) (wk0 (fun w13 => wle (ws_p w11 14 p1 16 v12) w13 → zb_X6_expression_p165 E L Q w13) (fun e w => Q (.inr e) w))) (fun e w => Q (.inr e) w)) else (if (kw_on i2) = 41 then zw E (L - 21) kt_M140 [.ref (w_adr E.2.1 5 0), va_rf (w_p w 14 p1 3)] w (wk0 (fun w15 => wle w w15 → zb_X6_expression_p165 E L Q w15) (fun e w => Q (.inr e) w)) else (if (kw_on i2) = 42 then zw E (L - 21) kt_M140 [.ref (w_adr E.2.1 5 0), va_rf (w_p w 14 p1 3)] w (wk0 (fun w17 => wle w w17 → zw E (L - 21) kt_M140 [.ref (w_adr E.2.1 5 0), va_rf (w_p w17 14 p1 4)] w17 (wk0 (fun w19 => wle w17 w19 → zb_X6_expression_p165 E L Q w19) (fun e w => Q (.inr e) w))) (fun e w => Q (.inr e) w)) else (if (kw_on i2) = 43 then zw E (L - 22) kt_M141 [.ref (w_adr E.2.1 5 0), va_rf (w_p w 14 p1 3)] w (wk0 (fun w21 => wle w w21 → zb_X6_expression_p165 E L Q w21) (fun e w => Q (.inr e) w)) else zb_X6_expression_p165 E L Q w)))))))))
theorem zt_X6_expression_p0 {E : zE} {L : Nat} {Q : kx_Rs → wS → Prop} {x1 : Option Nat} {w : wS} (hL : 24 ≤ L) (h : zb_X6_expression_p0 E L Q x1 w) : kzE E L kt_M140 0 [(0, .ref (w_adr E.2.1 5 0)), (1, va_rf (x1))] [] w Q := by
  unfold zb_X6_expression_p0 at h
  refine kz_aload_nv (M := kt_M140) (x := x1) kX6_expression_c0.1 rfl ?_
  obtain ⟨p1, hxp1, hlp1, h⟩ := h
  refine kz_nz0 (x := x1) hxp1 ?_
  refine kz_gfp (M := kt_M140) (c := 14) (o := p1) kX6_expression_c0.2.1 wf_X6_124 (.inr (by exact hlp1)) ?_
  obtain ⟨i2, ho, h⟩ := h
  refine kz_ord (M := kt_M140) (x := w_p w 14 p1 0) (i := i2) (C := "MeetingHouse$Kind") kX6_expression_c0.2.2.1 zo_l_X6 zo_m_X6 zo_s_Kind zo_u_X6 (Nat.le_trans (Nat.le_of_ble_eq_true rfl) hL) (Nat.le_of_ble_eq_true rfl) ho ?_
  refine kz_tsw (M := kt_M140) [(37, 48), (38, 78), (39, 89), (40, 135), (41, 48), (42, 59), (43, 78)] [_, _, _, _, _, _, _] 165 dX6_expression_p7 (by decide +kernel) h ⟨fun h => ?_, fun h => ?_, fun h => ?_, fun h => ?_, fun h => ?_, fun h => ?_, fun h => ?_, trivial⟩ (fun h => ?_)
  · skip
    refine kz_aload_n (M := kt_M140) kX6_expression_c0.2.2.2.2.1 rfl ?_
    refine kz_aload_nv (M := kt_M140) (x := x1) kX6_expression_c0.2.2.2.2.2.1 rfl ?_
    refine kz_nz0 (x := x1) hxp1 ?_
    refine kz_gfp (M := kt_M140) (c := 14) (o := p1) kX6_expression_c0.2.2.2.2.2.2.1 wf_X6_93 (.inr (by exact hlp1)) ?_
    refine kz_cv0 (M := kt_M140) (c := 5) (o := 0) (As := [va_rf (w_p w 14 p1 3)]) (rest := []) kX6_expression_c0.2.2.2.2.2.2.2.1 wl_X6_137 wMv_140 rfl (.inl rfl) rfl (Nat.le_trans (Nat.le_of_ble_eq_true rfl) hL) (by simp [lg_sl, w_cat, z_ci, z_cr, z_cl, z_cn, kt_M140]) (Nat.le_of_ble_eq_true rfl) h (fun w3 hle h => ?_) (fun _ _ _ h => kzx_no rfl h)
    have h := h hle
    have hlp1 := w_l_le hlp1 hle
    refine kz_goto (M := kt_M140) kX6_expression_c1.1 (t := 165) rfl ?_
    exact kz_weak [(0, .ref (w_adr E.2.1 5 0))] ⟨rfl, trivial⟩ rfl (zt_X6_expression_p165 hL  h)
  · skip
    refine kz_aload_n (M := kt_M140) kX6_expression_c2.2.2.1 rfl ?_
    refine kz_aload_nv (M := kt_M140) (x := x1) kX6_expression_c2.2.2.2.1 rfl ?_
    refine kz_nz0 (x := x1) hxp1 ?_
    refine kz_gfp (M := kt_M140) (c := 14) (o := p1) kX6_expression_c2.2.2.2.2.1 wf_X6_93 (.inr (by exact hlp1)) ?_
    refine kz_cv0 (M := kt_M140) (c := 5) (o := 0) (As := [va_rf (w_p w 14 p1 3)]) (rest := []) kX6_expression_c2.2.2.2.2.2.1 wl_X6_231 wMv_141 rfl (.inl rfl) rfl (Nat.le_trans (Nat.le_of_ble_eq_true rfl) hL) (by simp [lg_sl, w_cat, z_ci, z_cr, z_cl, z_cn, kt_M141]) (Nat.le_of_ble_eq_true rfl) h (fun w5 hle h => ?_) (fun _ _ _ h => kzx_no rfl h)
    have h := h hle
    have hlp1 := w_l_le hlp1 hle
    refine kz_goto (M := kt_M140) kX6_expression_c2.2.2.2.2.2.2.1 (t := 165) rfl ?_
    exact kz_weak [(0, .ref (w_adr E.2.1 5 0))] ⟨rfl, trivial⟩ rfl (zt_X6_expression_p165 hL  h)
  · skip
    refine kz_aload_nv (M := kt_M140) (x := x1) kX6_expression_c2.2.2.2.2.2.2.2.1 rfl ?_
    refine kz_aload_n (M := kt_M140) kX6_expression_c3.1 rfl ?_
    refine kz_aload_nv (M := kt_M140) (x := x1) kX6_expression_c3.2.1 rfl ?_
    refine kz_nz0 (x := x1) hxp1 ?_
    refine kz_gfi (M := kt_M140) (c := 14) (o := p1) kX6_expression_c3.2.2.1 wf_X6_83 (.inr (by exact hlp1)) ?_
    refine kz_aload_nv (M := kt_M140) (x := x1) kX6_expression_c3.2.2.2.1 rfl ?_
    refine kz_nz0 (x := x1) hxp1 ?_
    refine kz_gfi (M := kt_M140) (c := 14) (o := p1) kX6_expression_c3.2.2.2.2.1 wf_X6_86 (.inr (by exact hlp1)) ?_
    refine kz_cvr (M := kt_M140) (c := 5) (o := 0) (As := [.int (w_i w 14 p1 9), .int (w_i w 14 p1 2)]) (rest := [va_rf (x1)]) kX6_expression_c3.2.2.2.2.2.1 wl_X6_76 wMv_142 rfl (.inl rfl) rfl (Nat.le_trans (Nat.le_of_ble_eq_true rfl) hL) (Nat.le_of_ble_eq_true rfl) (by simp [kx_cat, w_cat, z_ci, z_cr, z_cl, z_cn]) h (fun v8 w7 hle h => ?_) (fun _ _ _ h => kzx_no rfl h)
    have h := h hle
    have hlp1 := w_l_le hlp1 hle
    refine kz_nz1 (x := x1) hxp1 ?_
    refine kz_pfp (M := kt_M140) (n := v8) (c := 14) (o := p1) kX6_expression_c3.2.2.2.2.2.2.1 wq_X6_146 (.inr (by exact hlp1)) ?_
    refine kz_aload_nv (M := kt_M140) (x := x1) kX6_expression_c3.2.2.2.2.2.2.2.1 rfl ?_
    refine kz_nz0 (x := x1) hxp1 ?_
    refine kz_gfpR (M := kt_M140) (c := 14) (o := p1) (w_p w7 14 p1 3) kX6_expression_c4.1 wf_X6_93 (.inr (by exact hlp1)) (rd_p_p rfl) ?_
    refine kz_ifnull (M := kt_M140) (x := w_p w7 14 p1 3) kX6_expression_c4.2.1 (t := 120) rfl h (fun h => ?_) (fun h => ?_)
    · skip
      exact kz_weak [(0, .ref (w_adr E.2.1 5 0)), (1, va_rf (x1))] ⟨rfl, ⟨rfl, trivial⟩⟩ rfl (zt_X6_expression_p120 hL  h)
    · skip
      refine kz_aload_n (M := kt_M140) kX6_expression_c4.2.2.1 rfl ?_
      refine kz_aload_nv (M := kt_M140) (x := x1) kX6_expression_c4.2.2.2.1 rfl ?_
      refine kz_nz0 (x := x1) hxp1 ?_
      refine kz_gfpR (M := kt_M140) (c := 14) (o := p1) (w_p w7 14 p1 3) kX6_expression_c4.2.2.2.2.1 wf_X6_93 (.inr (by exact hlp1)) (rd_p_p rfl) ?_
      refine kz_cv0 (M := kt_M140) (c := 5) (o := 0) (As := [va_rf (w_p w7 14 p1 3)]) (rest := []) kX6_expression_c4.2.2.2.2.2.1 wl_X6_137 wMv_140 rfl (.inl rfl) rfl (Nat.le_trans (Nat.le_of_ble_eq_true rfl) hL) (by simp [lg_sl, w_cat, z_ci, z_cr, z_cl, z_cn, kt_M140]) (Nat.le_of_ble_eq_true rfl) h (fun w9 hle h => ?_) (fun _ _ _ h => kzx_no rfl h)
      have h := h hle
      have hlp1 := w_l_le hlp1 hle
      exact kz_weak [(0, .ref (w_adr E.2.1 5 0)), (1, va_rf (x1))] ⟨rfl, ⟨rfl, trivial⟩⟩ rfl (zt_X6_expression_p120 hL  h)
  · skip
    refine kz_aload_nv (M := kt_M140) (x := x1) kX6_expression_c5.2.2.2.2.2.1 rfl ?_
    refine kz_aload_n (M := kt_M140) kX6_expression_c5.2.2.2.2.2.2.1 rfl ?_
    refine kz_aload_nv (M := kt_M140) (x := x1) kX6_expression_c5.2.2.2.2.2.2.2.1 rfl ?_
    refine kz_nz0 (x := x1) hxp1 ?_
    refine kz_gfi (M := kt_M140) (c := 14) (o := p1) kX6_expression_c6.1 wf_X6_83 (.inr (by exact hlp1)) ?_
    refine kz_aload_nv (M := kt_M140) (x := x1) kX6_expression_c6.2.1 rfl ?_
    refine kz_nz0 (x := x1) hxp1 ?_
    refine kz_gfi (M := kt_M140) (c := 14) (o := p1) kX6_expression_c6.2.2.1 wf_X6_86 (.inr (by exact hlp1)) ?_
    refine kz_getsE (M := kt_M140) (v := va_rf (some (E.1.1 56))) kX6_expression_c6.2.2.2.1 zs_X6_225 ?_
    refine kz_cvr (M := kt_M140) (c := 5) (o := 0) (As := [.int (w_i w 14 p1 9), .int (w_i w 14 p1 2), va_rf (some (E.1.1 56))]) (rest := [va_rf (x1)]) kX6_expression_c6.2.2.2.2.1 wl_X6_118 wMv_143 rfl (.inl rfl) rfl (Nat.le_trans (Nat.le_of_ble_eq_true rfl) hL) (by simp [lg_sl, w_cat, z_ci, z_cr, z_cl, z_cn, kt_M143]) (by simp [kx_cat, w_cat, z_ci, z_cr, z_cl, z_cn]) h (fun v12 w11 hle h => ?_) (fun _ _ _ h => kzx_no rfl h)
    have h := h hle
    have hlp1 := w_l_le hlp1 hle
    refine kz_nz1 (x := x1) hxp1 ?_
    refine kz_pfp (M := kt_M140) (n := v12) (c := 14) (o := p1) kX6_expression_c6.2.2.2.2.2.1 wq_X6_146 (.inr (by exact hlp1)) ?_
    refine kz_aload_n (M := kt_M140) kX6_expression_c6.2.2.2.2.2.2.1 rfl ?_
    refine kz_aload_nv (M := kt_M140) (x := x1) kX6_expression_c6.2.2.2.2.2.2.2.1 rfl ?_
    refine kz_nz0 (x := x1) hxp1 ?_
    refine kz_gfpR (M := kt_M140) (c := 14) (o := p1) (w_p w11 14 p1 4) kX6_expression_c7.1 wf_X6_99 (.inr (by exact hlp1)) (rd_p_p rfl) ?_
    refine kz_cv0 (M := kt_M140) (c := 5) (o := 0) (As := [va_rf (w_p w11 14 p1 4)]) (rest := []) kX6_expression_c7.2.1 wl_X6_231 wMv_141 rfl (.inl rfl) rfl (Nat.le_trans (Nat.le_of_ble_eq_true rfl) hL) (by simp [lg_sl, w_cat, z_ci, z_cr, z_cl, z_cn, kt_M141]) (Nat.le_of_ble_eq_true rfl) h (fun w13 hle h => ?_) (fun _ _ _ h => kzx_no rfl h)
    have h := h hle
    have hlp1 := w_l_le hlp1 hle
    refine kz_goto (M := kt_M140) kX6_expression_c7.2.2.1 (t := 165) rfl ?_
    exact kz_weak [(0, .ref (w_adr E.2.1 5 0))] ⟨rfl, trivial⟩ rfl (zt_X6_expression_p165 hL  h)
  · skip
    refine kz_aload_n (M := kt_M140) kX6_expression_c0.2.2.2.2.1 rfl ?_
    refine kz_aload_nv (M := kt_M140) (x := x1) kX6_expression_c0.2.2.2.2.2.1 rfl ?_
    refine kz_nz0 (x := x1) hxp1 ?_
    refine kz_gfp (M := kt_M140) (c := 14) (o := p1) kX6_expression_c0.2.2.2.2.2.2.1 wf_X6_93 (.inr (by exact hlp1)) ?_
    refine kz_cv0 (M := kt_M140) (c := 5) (o := 0) (As := [va_rf (w_p w 14 p1 3)]) (rest := []) kX6_expression_c0.2.2.2.2.2.2.2.1 wl_X6_137 wMv_140 rfl (.inl rfl) rfl (Nat.le_trans (Nat.le_of_ble_eq_true rfl) hL) (by simp [lg_sl, w_cat, z_ci, z_cr, z_cl, z_cn, kt_M140]) (Nat.le_of_ble_eq_true rfl) h (fun w15 hle h => ?_) (fun _ _ _ h => kzx_no rfl h)
    have h := h hle
    have hlp1 := w_l_le hlp1 hle
    refine kz_goto (M := kt_M140) kX6_expression_c1.1 (t := 165) rfl ?_
    exact kz_weak [(0, .ref (w_adr E.2.1 5 0))] ⟨rfl, trivial⟩ rfl (zt_X6_expression_p165 hL  h)
  · skip
    refine kz_aload_n (M := kt_M140) kX6_expression_c1.2.1 rfl ?_
    refine kz_aload_nv (M := kt_M140) (x := x1) kX6_expression_c1.2.2.1 rfl ?_
    refine kz_nz0 (x := x1) hxp1 ?_
    refine kz_gfp (M := kt_M140) (c := 14) (o := p1) kX6_expression_c1.2.2.2.1 wf_X6_93 (.inr (by exact hlp1)) ?_
    refine kz_cv0 (M := kt_M140) (c := 5) (o := 0) (As := [va_rf (w_p w 14 p1 3)]) (rest := []) kX6_expression_c1.2.2.2.2.1 wl_X6_137 wMv_140 rfl (.inl rfl) rfl (Nat.le_trans (Nat.le_of_ble_eq_true rfl) hL) (by simp [lg_sl, w_cat, z_ci, z_cr, z_cl, z_cn, kt_M140]) (Nat.le_of_ble_eq_true rfl) h (fun w17 hle h => ?_) (fun _ _ _ h => kzx_no rfl h)
    have h := h hle
    have hlp1 := w_l_le hlp1 hle
    refine kz_aload_n (M := kt_M140) kX6_expression_c1.2.2.2.2.2.1 rfl ?_
    refine kz_aload_nv (M := kt_M140) (x := x1) kX6_expression_c1.2.2.2.2.2.2.1 rfl ?_
    refine kz_nz0 (x := x1) hxp1 ?_
    refine kz_gfp (M := kt_M140) (c := 14) (o := p1) kX6_expression_c1.2.2.2.2.2.2.2.1 wf_X6_99 (.inr (by exact hlp1)) ?_
    refine kz_cv0 (M := kt_M140) (c := 5) (o := 0) (As := [va_rf (w_p w17 14 p1 4)]) (rest := []) kX6_expression_c2.1 wl_X6_137 wMv_140 rfl (.inl rfl) rfl (Nat.le_trans (Nat.le_of_ble_eq_true rfl) hL) (by simp [lg_sl, w_cat, z_ci, z_cr, z_cl, z_cn, kt_M140]) (Nat.le_of_ble_eq_true rfl) h (fun w19 hle h => ?_) (fun _ _ _ h => kzx_no rfl h)
    have h := h hle
    have hlp1 := w_l_le hlp1 hle
    refine kz_goto (M := kt_M140) kX6_expression_c2.2.1 (t := 165) rfl ?_
    exact kz_weak [(0, .ref (w_adr E.2.1 5 0))] ⟨rfl, trivial⟩ rfl (zt_X6_expression_p165 hL  h)
  · skip
    refine kz_aload_n (M := kt_M140) kX6_expression_c2.2.2.1 rfl ?_
    refine kz_aload_nv (M := kt_M140) (x := x1) kX6_expression_c2.2.2.2.1 rfl ?_
    refine kz_nz0 (x := x1) hxp1 ?_
    refine kz_gfp (M := kt_M140) (c := 14) (o := p1) kX6_expression_c2.2.2.2.2.1 wf_X6_93 (.inr (by exact hlp1)) ?_
    refine kz_cv0 (M := kt_M140) (c := 5) (o := 0) (As := [va_rf (w_p w 14 p1 3)]) (rest := []) kX6_expression_c2.2.2.2.2.2.1 wl_X6_231 wMv_141 rfl (.inl rfl) rfl (Nat.le_trans (Nat.le_of_ble_eq_true rfl) hL) (by simp [lg_sl, w_cat, z_ci, z_cr, z_cl, z_cn, kt_M141]) (Nat.le_of_ble_eq_true rfl) h (fun w21 hle h => ?_) (fun _ _ _ h => kzx_no rfl h)
    have h := h hle
    have hlp1 := w_l_le hlp1 hle
    refine kz_goto (M := kt_M140) kX6_expression_c2.2.2.2.2.2.2.1 (t := 165) rfl ?_
    exact kz_weak [(0, .ref (w_adr E.2.1 5 0))] ⟨rfl, trivial⟩ rfl (zt_X6_expression_p165 hL  h)
  · skip
    exact kz_weak [(0, .ref (w_adr E.2.1 5 0))] ⟨rfl, trivial⟩ rfl (zt_X6_expression_p165 hL  h)
def zb_X6_valued_p26 (E : zE) (L : Nat) (Q : kx_Rs → wS → Prop) (w : wS) : Prop := Q (.inl none) w
theorem zt_X6_valued_p26 {E : zE} {L : Nat} {Q : kx_Rs → wS → Prop} {w : wS} (hL : 22 ≤ L) (h : zb_X6_valued_p26 E L Q  w) : kzE E L kt_M155 26 [(0, .ref (w_adr E.2.1 5 0))] [] w Q := by
  unfold zb_X6_valued_p26 at h
  exact kz_ret (M := kt_M155) kX6_valued_c1.2.2.1 rfl h
def zb_X6_valued_p0 (E : zE) (L : Nat) (Q : kx_Rs → wS → Prop) (x1 : Option Nat) (w : wS) : Prop := (∃ p1, x1 = some p1 ∧ w_l w E.2.1 14 p1 ∧ (∃ p2, w_p w 14 p1 16 = some p2 ∧ w_l w E.2.1 15 p2 ∧ (if w_p w 15 p2 0 = some (E.1.1 54) then zb_X6_valued_p26 E L Q w else (if ¬ w_p w 15 p2 0 = some (E.1.1 55) then zw E (L - 22) kt_M56 [.ref (w_adr E.2.1 2 0), .int 6, .int (w_i w 14 p1 2)] w (wk0 (fun w3 => wle w w3 → Q (.inl none) (ws_p w3 14 p1 16 none)) (fun e w => Q (.inr e) w)) else zb_X6_valued_p26 E L Q w))))
theorem zt_X6_valued_p0 {E : zE} {L : Nat} {Q : kx_Rs → wS → Prop} {x1 : Option Nat} {w : wS} (hL : 22 ≤ L) (h : zb_X6_valued_p0 E L Q x1 w) : kzE E L kt_M155 0 [(0, .ref (w_adr E.2.1 5 0)), (1, va_rf (x1))] [] w Q := by
  unfold zb_X6_valued_p0 at h
  refine kz_aload_nv (M := kt_M155) (x := x1) kX6_valued_c0.1 rfl ?_
  obtain ⟨p1, hxp1, hlp1, h⟩ := h
  refine kz_nz0 (x := x1) hxp1 ?_
  refine kz_gfp (M := kt_M155) (c := 14) (o := p1) kX6_valued_c0.2.1 wf_X6_146 (.inr (by exact hlp1)) ?_
  obtain ⟨p2, hxp2, hlp2, h⟩ := h
  refine kz_nz0 (x := w_p w 14 p1 16) hxp2 ?_
  refine kz_gfp (M := kt_M155) (c := 15) (o := p2) kX6_valued_c0.2.2.1 wf_X6_80 (.inr (by exact hlp2)) ?_
  refine kz_getsE (M := kt_M155) (v := va_rf (some (E.1.1 54))) kX6_valued_c0.2.2.2.1 zs_X6_157 ?_
  refine kz_acmp_eq (M := kt_M155) (x := w_p w 15 p2 0) (y := some (E.1.1 54)) kX6_valued_c0.2.2.2.2.1 (t := 26) rfl h (fun h => ?_) (fun h => ?_)
  · skip
    exact kz_weak [(0, .ref (w_adr E.2.1 5 0))] ⟨rfl, trivial⟩ rfl (zt_X6_valued_p26 hL  h)
  · skip
    refine kz_aload_nv (M := kt_M155) (x := x1) kX6_valued_c0.2.2.2.2.2.1 rfl ?_
    refine kz_nz0 (x := x1) hxp1 ?_
    refine kz_gfp (M := kt_M155) (c := 14) (o := p1) kX6_valued_c0.2.2.2.2.2.2.1 wf_X6_146 (.inr (by exact hlp1)) ?_
    refine kz_nz0 (x := w_p w 14 p1 16) hxp2 ?_
    refine kz_gfp (M := kt_M155) (c := 15) (o := p2) kX6_valued_c0.2.2.2.2.2.2.2.1 wf_X6_80 (.inr (by exact hlp2)) ?_
    refine kz_getsE (M := kt_M155) (v := va_rf (some (E.1.1 55))) kX6_valued_c1.1 zs_X6_143 ?_
    refine kz_acmp_ne (M := kt_M155) (x := w_p w 15 p2 0) (y := some (E.1.1 55)) kX6_valued_c1.2.1 (t := 27) rfl h (fun h => ?_) (fun h => ?_)
    · skip
      refine kz_aload_n (M := kt_M155) kX6_valued_c1.2.2.2.1 rfl ?_
      refine kz_gfc (M := kt_M155) (x := 8) (c := 5) (o := 0) kX6_valued_c1.2.2.2.2.1 wf_X6_15 (.inl rfl) ?_
      refine kz_bi (M := kt_M155) 6 kX6_valued_c1.2.2.2.2.2.1 rfl ?_
      refine kz_aload_nv (M := kt_M155) (x := x1) kX6_valued_c1.2.2.2.2.2.2.1 rfl ?_
      refine kz_nz0 (x := x1) hxp1 ?_
      refine kz_gfi (M := kt_M155) (c := 14) (o := p1) kX6_valued_c1.2.2.2.2.2.2.2.1 wf_X6_86 (.inr (by exact hlp1)) ?_
      refine kz_cv0 (M := kt_M155) (c := 2) (o := 0) (As := [.int 6, .int (w_i w 14 p1 2)]) (rest := []) kX6_valued_c2.1 wl_X6_70 wMv_56 rfl (.inl rfl) rfl (Nat.le_trans (Nat.le_of_ble_eq_true rfl) hL) (Nat.le_of_ble_eq_true rfl) (Nat.le_of_ble_eq_true rfl) h (fun w3 hle h => ?_) (fun _ _ _ h => kzx_no rfl h)
      have h := h hle
      have hlp1 := w_l_le hlp1 hle
      have hlp2 := w_l_le hlp2 hle
      refine kz_aload_nv (M := kt_M155) (x := x1) kX6_valued_c2.2.1 rfl ?_
      refine kz_null (M := kt_M155) kX6_valued_c2.2.2.1 ?_
      refine kz_nz1 (x := x1) hxp1 ?_
      refine kz_pfp (M := kt_M155) (n := none) (c := 14) (o := p1) kX6_valued_c2.2.2.2.1 wq_X6_146 (.inr (by exact hlp1)) ?_
      exact kz_ret (M := kt_M155) kX6_valued_c2.2.2.2.2.1 rfl h
    · skip
      exact kz_weak [(0, .ref (w_adr E.2.1 5 0))] ⟨rfl, trivial⟩ rfl (zt_X6_valued_p26 hL  h)
def zb_X6_find_2_p22 (E : zE) (L : Nat) (Q : kx_Rs → wS → Prop) (x4 : Option Nat) (w : wS) : Prop := Q (.inl (some (va_rf (x4)))) w
theorem zt_X6_find_2_p22 {E : zE} {L : Nat} {Q : kx_Rs → wS → Prop} {x4 : Option Nat} {w : wS} (hL : 23 ≤ L) (h : zb_X6_find_2_p22 E L Q x4 w) : kzE E L kt_M143 22 [(0, .ref (w_adr E.2.1 5 0)), (4, va_rf (x4))] [] w Q := by
  unfold zb_X6_find_2_p22 at h
  refine kz_aloadv (M := kt_M143) (x := x4) kX6_find_2_c1.2.2.2.1 rfl ?_
  exact kz_areto (x := x4) (M := kt_M143) kX6_find_2_c1.2.2.2.2.1 rfl h
def zb_X6_find_2_p0 (E : zE) (L : Nat) (Q : kx_Rs → wS → Prop) (x1 : Int32) (x2 : Int32) (x3 : Option Nat) (w : wS) : Prop := zw E (L - 23) kt_M142 [.ref (w_adr E.2.1 5 0), .int x1, .int x2] w (wkr (fun v2 w1 => wle w w1 → (if v2 = none then zb_X6_find_2_p22 E L Q v2 w1 else (∃ p3, v2 = some p3 ∧ w_l w1 E.2.1 15 p3 ∧ (if ¬ w_p w1 15 p3 0 = x3 then zw E (L - 22) kt_M56 [.ref (w_adr E.2.1 2 0), .int 6, .int x2] w1 (wk0 (fun w4 => wle w1 w4 → Q (.inl (some (va_rf none))) w4) (fun e w => Q (.inr e) w)) else zb_X6_find_2_p22 E L Q v2 w1)))) (fun e w => Q (.inr e) w))
theorem zt_X6_find_2_p0 {E : zE} {L : Nat} {Q : kx_Rs → wS → Prop} {x1 : Int32} {x2 : Int32} {x3 : Option Nat} {w : wS} (hL : 23 ≤ L) (h : zb_X6_find_2_p0 E L Q x1 x2 x3 w) : kzE E L kt_M143 0 [(0, .ref (w_adr E.2.1 5 0)), (1, .int x1), (2, .int x2), (3, va_rf (x3))] [] w Q := by
  unfold zb_X6_find_2_p0 at h
  refine kz_aload_n (M := kt_M143) kX6_find_2_c0.1 rfl ?_
  refine kz_iload_n (M := kt_M143) kX6_find_2_c0.2.1 rfl ?_
  refine kz_iload_n (M := kt_M143) kX6_find_2_c0.2.2.1 rfl ?_
  refine kz_cvr (M := kt_M143) (c := 5) (o := 0) (As := [.int x1, .int x2]) (rest := []) kX6_find_2_c0.2.2.2.1 wl_X6_76 wMv_142 rfl (.inl rfl) rfl (Nat.le_trans (Nat.le_of_ble_eq_true rfl) hL) (Nat.le_of_ble_eq_true rfl) (Nat.le_of_ble_eq_true rfl) h (fun v2 w1 hle h => ?_) (fun _ _ _ h => kzx_no rfl h)
  have h := h hle
  refine kz_stv (M := kt_M143) (x := v2) [(0, .ref (w_adr E.2.1 5 0)), (2, .int x2), (3, va_rf (x3))] kX6_find_2_c0.2.2.2.2.1 (Nat.le_of_ble_eq_true rfl) ⟨⟨rfl, rfl, .inl rfl⟩, ⟨⟨rfl, rfl, .inl rfl⟩, ⟨⟨rfl, rfl, .inr (w_cat (x3))⟩, trivial⟩⟩⟩ rfl ?_
  refine kz_aloadv (M := kt_M143) (x := v2) kX6_find_2_c0.2.2.2.2.2.1 rfl ?_
  refine kz_ifnull (M := kt_M143) (x := v2) kX6_find_2_c0.2.2.2.2.2.2.1 (t := 22) rfl h (fun h => ?_) (fun h => ?_)
  · skip
    exact kz_weak [(0, .ref (w_adr E.2.1 5 0)), (4, va_rf (v2))] ⟨rfl, ⟨rfl, trivial⟩⟩ rfl (zt_X6_find_2_p22 hL  h)
  · skip
    refine kz_aloadv (M := kt_M143) (x := v2) kX6_find_2_c0.2.2.2.2.2.2.2.1 rfl ?_
    obtain ⟨p3, hxp3, hlp3, h⟩ := h
    refine kz_nz0 (x := v2) hxp3 ?_
    refine kz_gfp (M := kt_M143) (c := 15) (o := p3) kX6_find_2_c1.1 wf_X6_80 (.inr (by exact hlp3)) ?_
    refine kz_aload_nv (M := kt_M143) (x := x3) kX6_find_2_c1.2.1 rfl ?_
    refine kz_acmp_ne (M := kt_M143) (x := w_p w1 15 p3 0) (y := x3) kX6_find_2_c1.2.2.1 (t := 25) rfl h (fun h => ?_) (fun h => ?_)
    · skip
      refine kz_aload_n (M := kt_M143) kX6_find_2_c1.2.2.2.2.2.1 rfl ?_
      refine kz_gfc (M := kt_M143) (x := 8) (c := 5) (o := 0) kX6_find_2_c1.2.2.2.2.2.2.1 wf_X6_15 (.inl rfl) ?_
      refine kz_bi (M := kt_M143) 6 kX6_find_2_c1.2.2.2.2.2.2.2.1 rfl ?_
      refine kz_iload_n (M := kt_M143) kX6_find_2_c2.1 rfl ?_
      refine kz_cv0 (M := kt_M143) (c := 2) (o := 0) (As := [.int 6, .int x2]) (rest := []) kX6_find_2_c2.2.1 wl_X6_70 wMv_56 rfl (.inl rfl) rfl (Nat.le_trans (Nat.le_of_ble_eq_true rfl) hL) (Nat.le_of_ble_eq_true rfl) (Nat.le_of_ble_eq_true rfl) h (fun w4 hle h => ?_) (fun _ _ _ h => kzx_no rfl h)
      have h := h hle
      have hlp3 := w_l_le hlp3 hle
      refine kz_null (M := kt_M143) kX6_find_2_c2.2.2.1 ?_
      exact kz_areto (x := none) (M := kt_M143) kX6_find_2_c2.2.2.2.1 rfl h
    · skip
      exact kz_weak [(0, .ref (w_adr E.2.1 5 0)), (4, va_rf (v2))] ⟨rfl, ⟨rfl, trivial⟩⟩ rfl (zt_X6_find_2_p22 hL  h)
def zL_X6_several_p64 (E : zE) (L : Nat) (Q : kx_Rs → wS → Prop) (x1 : Option Nat) (x2 : Option Nat) (x3 : Option Nat) (x4 : Option Nat) (w : wS) : Prop := kzE E L kt_M154 64 [(0, .ref (w_adr E.2.1 5 0)), (1, va_rf (x1)), (2, va_rf (x2)), (3, va_rf (x3)), (4, va_rf (x4))] [] w Q
def zb_X6_several_p130 (E : zE) (L : Nat) (Q : kx_Rs → wS → Prop) (x1 : Option Nat) (x2 : Option Nat) (x3 : Option Nat) (x4 : Option Nat) (y0 : Int32) (y1 : Option Nat) (w : wS) : Prop := (∃ p1, y1 = some p1 ∧ w_l w E.2.1 15 p1 ∧ ((y0 = 0 ∨ y0 = 1) ∧ (∃ p2, x4 = some p2 ∧ w_l (ws_i w 15 p1 9 y0) E.2.1 14 p2 ∧ zL_X6_several_p64 E L Q x1 x2 x3 (w_p w 14 p2 7) (ws_i w 15 p1 9 y0))))
theorem zt_X6_several_p130 {E : zE} {L : Nat} {Q : kx_Rs → wS → Prop} {x1 : Option Nat} {x2 : Option Nat} {x3 : Option Nat} {x4 : Option Nat} {y0 : Int32} {y1 : Option Nat} {w : wS} (hL : 24 ≤ L) (h : zb_X6_several_p130 E L Q x1 x2 x3 x4 y0 y1 w) : kzE E L kt_M154 130 [(0, .ref (w_adr E.2.1 5 0)), (1, va_rf (x1)), (2, va_rf (x2)), (3, va_rf (x3)), (4, va_rf (x4))] [.int y0, va_rf (y1)] w Q := by
  unfold zb_X6_several_p130 at h
  obtain ⟨p1, hxp1, hlp1, h⟩ := h
  refine kz_nz1 (x := y1) hxp1 ?_
  obtain ⟨h0, h⟩ := h
  refine kz_pfz (M := kt_M154) (c := 15) (o := p1) kX6_several_c7.2.2.1 wq_X6_151 (.inr (by exact hlp1)) h0 ?_
  refine kz_aloadv (M := kt_M154) (x := x4) kX6_several_c7.2.2.2.1 rfl ?_
  obtain ⟨p2, hxp2, hlp2, h⟩ := h
  refine kz_nz0 (x := x4) hxp2 ?_
  refine kz_gfpR (M := kt_M154) (c := 14) (o := p2) (w_p w 14 p2 7) kX6_several_c7.2.2.2.2.1 wf_X6_89 (.inr (by exact hlp2)) rd_p_i ?_
  refine kz_stv (M := kt_M154) (x := w_p w 14 p2 7) [(0, .ref (w_adr E.2.1 5 0)), (1, va_rf (x1)), (2, va_rf (x2)), (3, va_rf (x3))] kX6_several_c7.2.2.2.2.2.1 (Nat.le_of_ble_eq_true rfl) ⟨⟨rfl, rfl, .inl rfl⟩, ⟨⟨rfl, rfl, .inl rfl⟩, ⟨⟨rfl, rfl, .inl rfl⟩, ⟨⟨rfl, rfl, .inr (w_cat (x3))⟩, trivial⟩⟩⟩⟩ rfl ?_
  refine kz_goto (M := kt_M154) kX6_several_c7.2.2.2.2.2.2.1 (t := 64) rfl ?_
  exact kz_weak [(0, .ref (w_adr E.2.1 5 0)), (1, va_rf (x1)), (2, va_rf (x2)), (3, va_rf (x3)), (4, va_rf (w_p w 14 p2 7))] ⟨rfl, ⟨rfl, ⟨rfl, ⟨rfl, ⟨rfl, trivial⟩⟩⟩⟩⟩ rfl h
def zb_X6_several_p64 (E : zE) (L : Nat) (Q : kx_Rs → wS → Prop) (x1 : Option Nat) (x2 : Option Nat) (x3 : Option Nat) (x4 : Option Nat) (w : wS) : Prop := (if x4 = none then Q (.inl none) w else (∃ p1, x4 = some p1 ∧ w_l w E.2.1 14 p1 ∧ zw E (L - 24) kt_M137 [.ref (w_adr E.2.1 5 0), va_rf (x3), .int (w_i w 14 p1 9), .int (w_i w 14 p1 2)] w (wkr (fun v3 w2 => wle w w2 → (∃ p4, x2 = some p4 ∧ w_l (ws_p w2 14 p1 16 v3) E.2.1 15 p4 ∧ (∃ p5, v3 = some p5 ∧ w_l (ws_p w2 14 p1 16 v3) E.2.1 15 p5 ∧ (∃ p6, x1 = some p6 ∧ w_l (ws_p (ws_i (ws_p w2 14 p1 16 v3) 15 p5 5 (w_i w2 15 p4 5)) 15 p5 15 (w_p w2 15 p4 15)) E.2.1 14 p6 ∧ (if (w_p w2 14 p6 3) = none then zb_X6_several_p130 E L Q x1 x2 x3 x4 0 v3 (ws_p (ws_i (ws_p w2 14 p1 16 v3) 15 p5 5 (w_i w2 15 p4 5)) 15 p5 15 (w_p w2 15 p4 15)) else zb_X6_several_p130 E L Q x1 x2 x3 x4 1 v3 (ws_p (ws_i (ws_p w2 14 p1 16 v3) 15 p5 5 (w_i w2 15 p4 5)) 15 p5 15 (w_p w2 15 p4 15))))))) (fun e w => Q (.inr e) w))))
theorem zt_X6_several_p64 {E : zE} {L : Nat} {Q : kx_Rs → wS → Prop} {x1 : Option Nat} {x2 : Option Nat} {x3 : Option Nat} {x4 : Option Nat} {w : wS} (hL : 24 ≤ L) (h : zb_X6_several_p64 E L Q x1 x2 x3 x4 w) : kzE E L kt_M154 64 [(0, .ref (w_adr E.2.1 5 0)), (1, va_rf (x1)), (2, va_rf (x2)), (3, va_rf (x3)), (4, va_rf (x4))] [] w Q := by
  unfold zb_X6_several_p64 at h
  refine kz_aloadv (M := kt_M154) (x := x4) kX6_several_c3.2.2.2.2.2.1 rfl ?_
  refine kz_ifnull (M := kt_M154) (x := x4) kX6_several_c3.2.2.2.2.2.2.1 (t := 143) rfl h (fun h => ?_) (fun h => ?_)
  · skip
    exact kz_ret (M := kt_M154) kX6_several_c7.2.2.2.2.2.2.2.1 rfl h
  · skip
    refine kz_aloadv (M := kt_M154) (x := x4) kX6_several_c3.2.2.2.2.2.2.2.1 rfl ?_
    refine kz_aload_n (M := kt_M154) kX6_several_c4.1 rfl ?_
    refine kz_aload_nv (M := kt_M154) (x := x3) kX6_several_c4.2.1 rfl ?_
    refine kz_aloadv (M := kt_M154) (x := x4) kX6_several_c4.2.2.1 rfl ?_
    obtain ⟨p1, hxp1, hlp1, h⟩ := h
    refine kz_nz0 (x := x4) hxp1 ?_
    refine kz_gfi (M := kt_M154) (c := 14) (o := p1) kX6_several_c4.2.2.2.1 wf_X6_83 (.inr (by exact hlp1)) ?_
    refine kz_aloadv (M := kt_M154) (x := x4) kX6_several_c4.2.2.2.2.1 rfl ?_
    refine kz_nz0 (x := x4) hxp1 ?_
    refine kz_gfi (M := kt_M154) (c := 14) (o := p1) kX6_several_c4.2.2.2.2.2.1 wf_X6_86 (.inr (by exact hlp1)) ?_
    refine kz_cvr (M := kt_M154) (c := 5) (o := 0) (As := [va_rf (x3), .int (w_i w 14 p1 9), .int (w_i w 14 p1 2)]) (rest := [va_rf (x4)]) kX6_several_c4.2.2.2.2.2.2.1 wl_X6_39 wMv_137 rfl (.inl rfl) rfl (Nat.le_trans (Nat.le_of_ble_eq_true rfl) hL) (by simp [lg_sl, w_cat, z_ci, z_cr, z_cl, z_cn, kt_M137]) (by simp [kx_cat, w_cat, z_ci, z_cr, z_cl, z_cn]) h (fun v3 w2 hle h => ?_) (fun _ _ _ h => kzx_no rfl h)
    have h := h hle
    have hlp1 := w_l_le hlp1 hle
    refine kz_nz1 (x := x4) hxp1 ?_
    refine kz_pfp (M := kt_M154) (n := v3) (c := 14) (o := p1) kX6_several_c4.2.2.2.2.2.2.2.1 wq_X6_146 (.inr (by exact hlp1)) ?_
    refine kz_aloadv (M := kt_M154) (x := x4) kX6_several_c5.1 rfl ?_
    refine kz_nz0 (x := x4) hxp1 ?_
    refine kz_gfpR (M := kt_M154) (c := 14) (o := p1) v3 kX6_several_c5.2.1 wf_X6_146 (.inr (by exact hlp1)) rd_p_e ?_
    refine kz_aload_nv (M := kt_M154) (x := x2) kX6_several_c5.2.2.1 rfl ?_
    obtain ⟨p4, hxp4, hlp4, h⟩ := h
    refine kz_nz0 (x := x2) hxp4 ?_
    refine kz_gfiR (M := kt_M154) (c := 15) (o := p4) (w_i w2 15 p4 5) kX6_several_c5.2.2.2.1 wf_X6_46 (.inr (by exact hlp4)) rd_i_p ?_
    obtain ⟨p5, hxp5, hlp5, h⟩ := h
    refine kz_nz1 (x := v3) hxp5 ?_
    refine kz_pfi (M := kt_M154) (c := 15) (o := p5) kX6_several_c5.2.2.2.2.1 wq_X6_46 (.inr (by exact hlp5)) ?_
    refine kz_aloadv (M := kt_M154) (x := x4) kX6_several_c5.2.2.2.2.2.1 rfl ?_
    refine kz_nz0 (x := x4) hxp1 ?_
    refine kz_gfpR (M := kt_M154) (c := 14) (o := p1) v3 kX6_several_c5.2.2.2.2.2.2.1 wf_X6_146 (.inr (by exact hlp1)) (rd_p_i.trans rd_p_e) ?_
    refine kz_aload_nv (M := kt_M154) (x := x2) kX6_several_c5.2.2.2.2.2.2.2.1 rfl ?_
    refine kz_nz0 (x := x2) hxp4 ?_
    refine kz_gfpR (M := kt_M154) (c := 15) (o := p4) (w_p w2 15 p4 15) kX6_several_c6.1 wf_X6_121 (.inr (by exact hlp4)) (rd_p_i.trans (rd_p_p rfl)) ?_
    refine kz_nz1 (x := v3) hxp5 ?_
    refine kz_pfp (M := kt_M154) (n := w_p w2 15 p4 15) (c := 15) (o := p5) kX6_several_c6.2.1 wq_X6_121 (.inr (by exact hlp5)) ?_
    refine kz_aloadv (M := kt_M154) (x := x4) kX6_several_c6.2.2.1 rfl ?_
    refine kz_nz0 (x := x4) hxp1 ?_
    refine kz_gfpR (M := kt_M154) (c := 14) (o := p1) v3 kX6_several_c6.2.2.2.1 wf_X6_146 (.inr (by exact hlp1)) ((rd_p_p rfl).trans (rd_p_i.trans rd_p_e)) ?_
    refine kz_aload_nv (M := kt_M154) (x := x1) kX6_several_c6.2.2.2.2.1 rfl ?_
    obtain ⟨p6, hxp6, hlp6, h⟩ := h
    refine kz_nz0 (x := x1) hxp6 ?_
    refine kz_gfpR (M := kt_M154) (c := 14) (o := p6) (w_p w2 14 p6 3) kX6_several_c6.2.2.2.2.2.1 wf_X6_93 (.inr (by exact hlp6)) ((rd_p_p rfl).trans (rd_p_i.trans (rd_p_p rfl))) ?_
    refine kz_ifnull (M := kt_M154) (x := w_p w2 14 p6 3) kX6_several_c6.2.2.2.2.2.2.1 (t := 129) rfl h (fun h => ?_) (fun h => ?_)
    · skip
      refine kz_ic (M := kt_M154) 0 kX6_several_c7.2.1 rfl ?_
      exact kz_weak [(0, .ref (w_adr E.2.1 5 0)), (1, va_rf (x1)), (2, va_rf (x2)), (3, va_rf (x3)), (4, va_rf (x4))] ⟨rfl, ⟨rfl, ⟨rfl, ⟨rfl, ⟨rfl, trivial⟩⟩⟩⟩⟩ rfl (zt_X6_several_p130 hL  h)
    · skip
      refine kz_ic (M := kt_M154) 1 kX6_several_c6.2.2.2.2.2.2.2.1 rfl ?_
      refine kz_goto (M := kt_M154) kX6_several_c7.1 (t := 130) rfl ?_
      exact kz_weak [(0, .ref (w_adr E.2.1 5 0)), (1, va_rf (x1)), (2, va_rf (x2)), (3, va_rf (x3)), (4, va_rf (x4))] ⟨rfl, ⟨rfl, ⟨rfl, ⟨rfl, ⟨rfl, trivial⟩⟩⟩⟩⟩ rfl (zt_X6_several_p130 hL  h)
def zb_X6_several_p57 (E : zE) (L : Nat) (Q : kx_Rs → wS → Prop) (x1 : Option Nat) (x2 : Option Nat) (y0 : Option Nat) (w : wS) : Prop := (∃ p1, x1 = some p1 ∧ w_l w E.2.1 14 p1 ∧ zL_X6_several_p64 E L Q x1 x2 y0 (w_p w 14 p1 4) w)
theorem zt_X6_several_p57 {E : zE} {L : Nat} {Q : kx_Rs → wS → Prop} {x1 : Option Nat} {x2 : Option Nat} {y0 : Option Nat} {w : wS} (hL : 24 ≤ L) (h : zb_X6_several_p57 E L Q x1 x2 y0 w) : kzE E L kt_M154 57 [(0, .ref (w_adr E.2.1 5 0)), (1, va_rf (x1)), (2, va_rf (x2))] [va_rf (y0)] w Q := by
  unfold zb_X6_several_p57 at h
  refine kz_stv_n (M := kt_M154) (x := y0) [(0, .ref (w_adr E.2.1 5 0)), (1, va_rf (x1)), (2, va_rf (x2))] kX6_several_c3.2.1 (Nat.le_of_ble_eq_true rfl) ⟨⟨rfl, rfl, .inl rfl⟩, ⟨⟨rfl, rfl, .inl rfl⟩, ⟨⟨rfl, rfl, .inr (w_cat (x2))⟩, trivial⟩⟩⟩ rfl ?_
  refine kz_aload_nv (M := kt_M154) (x := x1) kX6_several_c3.2.2.1 rfl ?_
  obtain ⟨p1, hxp1, hlp1, h⟩ := h
  refine kz_nz0 (x := x1) hxp1 ?_
  refine kz_gfp (M := kt_M154) (c := 14) (o := p1) kX6_several_c3.2.2.2.1 wf_X6_99 (.inr (by exact hlp1)) ?_
  refine kz_stv (M := kt_M154) (x := w_p w 14 p1 4) [(0, .ref (w_adr E.2.1 5 0)), (1, va_rf (x1)), (2, va_rf (x2)), (3, va_rf (y0))] kX6_several_c3.2.2.2.2.1 (Nat.le_of_ble_eq_true rfl) ⟨⟨rfl, rfl, .inl rfl⟩, ⟨⟨rfl, rfl, .inl rfl⟩, ⟨⟨rfl, rfl, .inl rfl⟩, ⟨⟨rfl, rfl, .inr (w_cat (y0))⟩, trivial⟩⟩⟩⟩ rfl ?_
  exact kz_weak [(0, .ref (w_adr E.2.1 5 0)), (1, va_rf (x1)), (2, va_rf (x2)), (3, va_rf (y0)), (4, va_rf (w_p w 14 p1 4))] ⟨rfl, ⟨rfl, ⟨rfl, ⟨rfl, ⟨rfl, trivial⟩⟩⟩⟩⟩ rfl h
def zb_X6_several_p0 (E : zE) (L : Nat) (Q : kx_Rs → wS → Prop) (x1 : Option Nat) (w : wS) : Prop := (∃ p1, x1 = some p1 ∧ w_l w E.2.1 14 p1 ∧ zw E (L - 24) kt_M226 [.ref (w_adr E.2.1 3 0), va_rf (some (E.1.1 53)), .int (-1), .int (w_i w 14 p1 2)] w (wkr (fun v3 w2 => wle w w2 → zw E (L - 22) kt_M145 [.ref (w_adr E.2.1 5 0), va_rf (x1), va_rf (v3)] w2 (wk0 (fun w4 => wle w2 w4 → (if ¬ w_p w4 14 p1 0 = some (E.1.1 27) then (if ¬ w_p w4 14 p1 0 = some (E.1.1 26) then zb_X6_several_p57 E L Q x1 v3 (some (E.1.1 54)) w4 else zb_X6_several_p57 E L Q x1 v3 (some (E.1.1 53)) w4) else zb_X6_several_p57 E L Q x1 v3 (some (E.1.1 58)) w4)) (fun e w => Q (.inr e) w))) (fun e w => Q (.inr e) w)))
theorem zt_X6_several_p0 {E : zE} {L : Nat} {Q : kx_Rs → wS → Prop} {x1 : Option Nat} {w : wS} (hL : 24 ≤ L) (h : zb_X6_several_p0 E L Q x1 w) : kzE E L kt_M154 0 [(0, .ref (w_adr E.2.1 5 0)), (1, va_rf (x1))] [] w Q := by
  unfold zb_X6_several_p0 at h
  refine kz_aload_n (M := kt_M154) kX6_several_c0.1 rfl ?_
  refine kz_gfc (M := kt_M154) (x := 12) (c := 5) (o := 0) kX6_several_c0.2.1 wf_X6_19 (.inl rfl) ?_
  refine kz_getsE (M := kt_M154) (v := va_rf (some (E.1.1 53))) kX6_several_c0.2.2.1 zs_X6_31 ?_
  refine kz_ic (M := kt_M154) (-1) kX6_several_c0.2.2.2.1 rfl ?_
  refine kz_aload_nv (M := kt_M154) (x := x1) kX6_several_c0.2.2.2.2.1 rfl ?_
  obtain ⟨p1, hxp1, hlp1, h⟩ := h
  refine kz_nz0 (x := x1) hxp1 ?_
  refine kz_gfi (M := kt_M154) (c := 14) (o := p1) kX6_several_c0.2.2.2.2.2.1 wf_X6_86 (.inr (by exact hlp1)) ?_
  refine kz_cvr (M := kt_M154) (c := 3) (o := 0) (As := [va_rf (some (E.1.1 53)), .int (-1), .int (w_i w 14 p1 2)]) (rest := []) kX6_several_c0.2.2.2.2.2.2.1 wl_X6_58 wMv_226 rfl (.inl rfl) rfl (Nat.le_trans (Nat.le_of_ble_eq_true rfl) hL) (by simp [lg_sl, w_cat, z_ci, z_cr, z_cl, z_cn, kt_M226]) (Nat.le_of_ble_eq_true rfl) h (fun v3 w2 hle h => ?_) (fun _ _ _ h => kzx_no rfl h)
  have h := h hle
  have hlp1 := w_l_le hlp1 hle
  refine kz_stv_n (M := kt_M154) (x := v3) [(0, .ref (w_adr E.2.1 5 0)), (1, va_rf (x1))] kX6_several_c0.2.2.2.2.2.2.2.1 (Nat.le_of_ble_eq_true rfl) ⟨⟨rfl, rfl, .inl rfl⟩, ⟨⟨rfl, rfl, .inr (w_cat (x1))⟩, trivial⟩⟩ rfl ?_
  refine kz_aload_n (M := kt_M154) kX6_several_c1.1 rfl ?_
  refine kz_aload_nv (M := kt_M154) (x := x1) kX6_several_c1.2.1 rfl ?_
  refine kz_aload_nv (M := kt_M154) (x := v3) kX6_several_c1.2.2.1 rfl ?_
  refine kz_cv0 (M := kt_M154) (c := 5) (o := 0) (As := [va_rf (x1), va_rf (v3)]) (rest := []) kX6_several_c1.2.2.2.1 wl_X6_164 wMv_145 rfl (.inl rfl) rfl (Nat.le_trans (Nat.le_of_ble_eq_true rfl) hL) (by simp [lg_sl, w_cat, z_ci, z_cr, z_cl, z_cn, kt_M145]) (Nat.le_of_ble_eq_true rfl) h (fun w4 hle h => ?_) (fun _ _ _ h => kzx_no rfl h)
  have h := h hle
  have hlp1 := w_l_le hlp1 hle
  refine kz_aload_nv (M := kt_M154) (x := x1) kX6_several_c1.2.2.2.2.1 rfl ?_
  refine kz_nz0 (x := x1) hxp1 ?_
  refine kz_gfp (M := kt_M154) (c := 14) (o := p1) kX6_several_c1.2.2.2.2.2.1 wf_X6_124 (.inr (by exact hlp1)) ?_
  refine kz_getsE (M := kt_M154) (v := va_rf (some (E.1.1 27))) kX6_several_c1.2.2.2.2.2.2.1 zs_X6_177 ?_
  refine kz_acmp_ne (M := kt_M154) (x := w_p w4 14 p1 0) (y := some (E.1.1 27)) kX6_several_c1.2.2.2.2.2.2.2.1 (t := 38) rfl h (fun h => ?_) (fun h => ?_)
  · skip
    refine kz_aload_nv (M := kt_M154) (x := x1) kX6_several_c2.2.2.1 rfl ?_
    refine kz_nz0 (x := x1) hxp1 ?_
    refine kz_gfp (M := kt_M154) (c := 14) (o := p1) kX6_several_c2.2.2.2.1 wf_X6_124 (.inr (by exact hlp1)) ?_
    refine kz_getsE (M := kt_M154) (v := va_rf (some (E.1.1 26))) kX6_several_c2.2.2.2.2.1 zs_X6_183 ?_
    refine kz_acmp_ne (M := kt_M154) (x := w_p w4 14 p1 0) (y := some (E.1.1 26)) kX6_several_c2.2.2.2.2.2.1 (t := 54) rfl h (fun h => ?_) (fun h => ?_)
    · skip
      refine kz_getsE (M := kt_M154) (v := va_rf (some (E.1.1 54))) kX6_several_c3.1 zs_X6_157 ?_
      exact kz_weak [(0, .ref (w_adr E.2.1 5 0)), (1, va_rf (x1)), (2, va_rf (v3))] ⟨rfl, ⟨rfl, ⟨rfl, trivial⟩⟩⟩ rfl (zt_X6_several_p57 hL  h)
    · skip
      refine kz_getsE (M := kt_M154) (v := va_rf (some (E.1.1 53))) kX6_several_c2.2.2.2.2.2.2.1 zs_X6_31 ?_
      refine kz_goto (M := kt_M154) kX6_several_c2.2.2.2.2.2.2.2.1 (t := 57) rfl ?_
      exact kz_weak [(0, .ref (w_adr E.2.1 5 0)), (1, va_rf (x1)), (2, va_rf (v3))] ⟨rfl, ⟨rfl, ⟨rfl, trivial⟩⟩⟩ rfl (zt_X6_several_p57 hL  h)
  · skip
    refine kz_getsE (M := kt_M154) (v := va_rf (some (E.1.1 58))) kX6_several_c2.1 zs_X6_180 ?_
    refine kz_goto (M := kt_M154) kX6_several_c2.2.1 (t := 57) rfl ?_
    exact kz_weak [(0, .ref (w_adr E.2.1 5 0)), (1, va_rf (x1)), (2, va_rf (v3))] ⟨rfl, ⟨rfl, ⟨rfl, trivial⟩⟩⟩ rfl (zt_X6_several_p57 hL  h)
def zb_X6_kind_p44 (E : zE) (L : Nat) (Q : kx_Rs → wS → Prop) (w : wS) : Prop := Q (.inl none) w
theorem zt_X6_kind_p44 {E : zE} {L : Nat} {Q : kx_Rs → wS → Prop} {w : wS} (hL : 24 ≤ L) (h : zb_X6_kind_p44 E L Q  w) : kzE E L kt_M145 44 [(0, .ref (w_adr E.2.1 5 0))] [] w Q := by
  unfold zb_X6_kind_p44 at h
  exact kz_ret (M := kt_M145) kX6_kind_c2.2.2.2.2.1 rfl h
def zb_X6_kind_p26 (E : zE) (L : Nat) (Q : kx_Rs → wS → Prop) (x1 : Option Nat) (x2 : Option Nat) (w : wS) : Prop := (∃ p1, x1 = some p1 ∧ w_l w E.2.1 14 p1 ∧ (if w_i w 14 p1 14 = 0 then zb_X6_kind_p44 E L Q w else (∃ p2, w_p w 14 p1 5 = some p2 ∧ w_l w E.2.1 14 p2 ∧ (∃ p3, x2 = some p3 ∧ w_l w E.2.1 15 p3 ∧ zb_X6_kind_p44 E L Q (ws_i w 15 p3 5 (w_i w 14 p2 8))))))
theorem zt_X6_kind_p26 {E : zE} {L : Nat} {Q : kx_Rs → wS → Prop} {x1 : Option Nat} {x2 : Option Nat} {w : wS} (hL : 24 ≤ L) (h : zb_X6_kind_p26 E L Q x1 x2 w) : kzE E L kt_M145 26 [(0, .ref (w_adr E.2.1 5 0)), (1, va_rf (x1)), (2, va_rf (x2))] [] w Q := by
  unfold zb_X6_kind_p26 at h
  refine kz_aload_nv (M := kt_M145) (x := x1) kX6_kind_c1.2.2.2.2.1 rfl ?_
  obtain ⟨p1, hxp1, hlp1, h⟩ := h
  refine kz_nz0 (x := x1) hxp1 ?_
  refine kz_gfi (M := kt_M145) (c := 14) (o := p1) kX6_kind_c1.2.2.2.2.2.1 wf_X6_108 (.inr (by exact hlp1)) ?_
  refine kz_if_eq (M := kt_M145) kX6_kind_c1.2.2.2.2.2.2.1 (t := 44) rfl h (fun h => ?_) (fun h => ?_)
  · skip
    exact kz_weak [(0, .ref (w_adr E.2.1 5 0))] ⟨rfl, trivial⟩ rfl (zt_X6_kind_p44 hL  h)
  · skip
    refine kz_aload_nv (M := kt_M145) (x := x2) kX6_kind_c1.2.2.2.2.2.2.2.1 rfl ?_
    refine kz_aload_nv (M := kt_M145) (x := x1) kX6_kind_c2.1 rfl ?_
    refine kz_nz0 (x := x1) hxp1 ?_
    refine kz_gfp (M := kt_M145) (c := 14) (o := p1) kX6_kind_c2.2.1 wf_X6_112 (.inr (by exact hlp1)) ?_
    obtain ⟨p2, hxp2, hlp2, h⟩ := h
    refine kz_nz0 (x := w_p w 14 p1 5) hxp2 ?_
    refine kz_gfi (M := kt_M145) (c := 14) (o := p2) kX6_kind_c2.2.2.1 wf_X6_105 (.inr (by exact hlp2)) ?_
    obtain ⟨p3, hxp3, hlp3, h⟩ := h
    refine kz_nz1 (x := x2) hxp3 ?_
    refine kz_pfi (M := kt_M145) (c := 15) (o := p3) kX6_kind_c2.2.2.2.1 wq_X6_46 (.inr (by exact hlp3)) ?_
    exact kz_weak [(0, .ref (w_adr E.2.1 5 0))] ⟨rfl, trivial⟩ rfl (zt_X6_kind_p44 hL  h)
def zb_X6_kind_p0 (E : zE) (L : Nat) (Q : kx_Rs → wS → Prop) (x1 : Option Nat) (x2 : Option Nat) (w : wS) : Prop := (∃ p1, x1 = some p1 ∧ w_l w E.2.1 14 p1 ∧ (∃ p2, x2 = some p2 ∧ w_l w E.2.1 15 p2 ∧ (if w_i w 14 p1 14 = 0 then zb_X6_kind_p26 E L Q x1 x2 (ws_i w 15 p2 5 (w_i w 14 p1 8)) else (∃ p3, w_p w 14 p1 5 = some p3 ∧ w_l (ws_i w 15 p2 5 (w_i w 14 p1 8)) E.2.1 14 p3 ∧ (if ¬ w_i w 14 p3 9 = (-1) then zw E (L - 24) kt_M143 [.ref (w_adr E.2.1 5 0), .int (w_i w 14 p3 9), .int (w_i w 14 p1 2), va_rf (some (E.1.1 57))] (ws_i (ws_i w 15 p2 5 (w_i w 14 p1 8)) 15 p2 5 0) (wkr (fun v5 w4 => wle (ws_i (ws_i w 15 p2 5 (w_i w 14 p1 8)) 15 p2 5 0) w4 → Q (.inl none) (ws_p w4 15 p2 15 v5)) (fun e w => Q (.inr e) w)) else zb_X6_kind_p26 E L Q x1 x2 (ws_i w 15 p2 5 (w_i w 14 p1 8)))))))
theorem zt_X6_kind_p0 {E : zE} {L : Nat} {Q : kx_Rs → wS → Prop} {x1 : Option Nat} {x2 : Option Nat} {w : wS} (hL : 24 ≤ L) (h : zb_X6_kind_p0 E L Q x1 x2 w) : kzE E L kt_M145 0 [(0, .ref (w_adr E.2.1 5 0)), (1, va_rf (x1)), (2, va_rf (x2))] [] w Q := by
  unfold zb_X6_kind_p0 at h
  refine kz_aload_nv (M := kt_M145) (x := x2) kX6_kind_c0.1 rfl ?_
  refine kz_aload_nv (M := kt_M145) (x := x1) kX6_kind_c0.2.1 rfl ?_
  obtain ⟨p1, hxp1, hlp1, h⟩ := h
  refine kz_nz0 (x := x1) hxp1 ?_
  refine kz_gfi (M := kt_M145) (c := 14) (o := p1) kX6_kind_c0.2.2.1 wf_X6_105 (.inr (by exact hlp1)) ?_
  obtain ⟨p2, hxp2, hlp2, h⟩ := h
  refine kz_nz1 (x := x2) hxp2 ?_
  refine kz_pfi (M := kt_M145) (c := 15) (o := p2) kX6_kind_c0.2.2.2.1 wq_X6_46 (.inr (by exact hlp2)) ?_
  refine kz_aload_nv (M := kt_M145) (x := x1) kX6_kind_c0.2.2.2.2.1 rfl ?_
  refine kz_nz0 (x := x1) hxp1 ?_
  refine kz_gfiR (M := kt_M145) (c := 14) (o := p1) (w_i w 14 p1 14) kX6_kind_c0.2.2.2.2.2.1 wf_X6_108 (.inr (by exact hlp1)) (rd_i_i rfl) ?_
  refine kz_if_eq (M := kt_M145) kX6_kind_c0.2.2.2.2.2.2.1 (t := 26) rfl h (fun h => ?_) (fun h => ?_)
  · skip
    exact kz_weak [(0, .ref (w_adr E.2.1 5 0)), (1, va_rf (x1)), (2, va_rf (x2))] ⟨rfl, ⟨rfl, ⟨rfl, trivial⟩⟩⟩ rfl (zt_X6_kind_p26 hL  h)
  · skip
    refine kz_aload_nv (M := kt_M145) (x := x1) kX6_kind_c0.2.2.2.2.2.2.2.1 rfl ?_
    refine kz_nz0 (x := x1) hxp1 ?_
    refine kz_gfpR (M := kt_M145) (c := 14) (o := p1) (w_p w 14 p1 5) kX6_kind_c1.1 wf_X6_112 (.inr (by exact hlp1)) rd_p_i ?_
    obtain ⟨p3, hxp3, hlp3, h⟩ := h
    refine kz_nz0 (x := w_p w 14 p1 5) hxp3 ?_
    refine kz_gfiR (M := kt_M145) (c := 14) (o := p3) (w_i w 14 p3 9) kX6_kind_c1.2.1 wf_X6_83 (.inr (by exact hlp3)) (rd_i_i rfl) ?_
    refine kz_ic (M := kt_M145) (-1) kX6_kind_c1.2.2.1 rfl ?_
    refine kz_icmp_ne (M := kt_M145) kX6_kind_c1.2.2.2.1 (t := 45) rfl h (fun h => ?_) (fun h => ?_)
    · skip
      refine kz_aload_nv (M := kt_M145) (x := x2) kX6_kind_c2.2.2.2.2.2.1 rfl ?_
      refine kz_ic (M := kt_M145) 0 kX6_kind_c2.2.2.2.2.2.2.1 rfl ?_
      refine kz_nz1 (x := x2) hxp2 ?_
      refine kz_pfi (M := kt_M145) (c := 15) (o := p2) kX6_kind_c2.2.2.2.2.2.2.2.1 wq_X6_46 (.inr (by exact hlp2)) ?_
      refine kz_aload_nv (M := kt_M145) (x := x2) kX6_kind_c3.1 rfl ?_
      refine kz_aload_n (M := kt_M145) kX6_kind_c3.2.1 rfl ?_
      refine kz_aload_nv (M := kt_M145) (x := x1) kX6_kind_c3.2.2.1 rfl ?_
      refine kz_nz0 (x := x1) hxp1 ?_
      refine kz_gfpR (M := kt_M145) (c := 14) (o := p1) (w_p w 14 p1 5) kX6_kind_c3.2.2.2.1 wf_X6_112 (.inr (by exact hlp1)) (rd_p_i.trans rd_p_i) ?_
      refine kz_nz0 (x := w_p w 14 p1 5) hxp3 ?_
      refine kz_gfiR (M := kt_M145) (c := 14) (o := p3) (w_i w 14 p3 9) kX6_kind_c3.2.2.2.2.1 wf_X6_83 (.inr (by exact hlp3)) ((rd_i_i rfl).trans (rd_i_i rfl)) ?_
      refine kz_aload_nv (M := kt_M145) (x := x1) kX6_kind_c3.2.2.2.2.2.1 rfl ?_
      refine kz_nz0 (x := x1) hxp1 ?_
      refine kz_gfiR (M := kt_M145) (c := 14) (o := p1) (w_i w 14 p1 2) kX6_kind_c3.2.2.2.2.2.2.1 wf_X6_86 (.inr (by exact hlp1)) ((rd_i_i rfl).trans (rd_i_i rfl)) ?_
      refine kz_getsE (M := kt_M145) (v := va_rf (some (E.1.1 57))) kX6_kind_c3.2.2.2.2.2.2.2.1 zs_X6_115 ?_
      refine kz_cvr (M := kt_M145) (c := 5) (o := 0) (As := [.int (w_i w 14 p3 9), .int (w_i w 14 p1 2), va_rf (some (E.1.1 57))]) (rest := [va_rf (x2)]) kX6_kind_c4.1 wl_X6_118 wMv_143 rfl (.inl rfl) rfl (Nat.le_trans (Nat.le_of_ble_eq_true rfl) hL) (by simp [lg_sl, w_cat, z_ci, z_cr, z_cl, z_cn, kt_M143]) (by simp [kx_cat, w_cat, z_ci, z_cr, z_cl, z_cn]) h (fun v5 w4 hle h => ?_) (fun _ _ _ h => kzx_no rfl h)
      have h := h hle
      have hlp1 := w_l_le hlp1 hle
      have hlp2 := w_l_le hlp2 hle
      have hlp3 := w_l_le hlp3 hle
      refine kz_nz1 (x := x2) hxp2 ?_
      refine kz_pfp (M := kt_M145) (n := v5) (c := 15) (o := p2) kX6_kind_c4.2.1 wq_X6_121 (.inr (by exact hlp2)) ?_
      exact kz_ret (M := kt_M145) kX6_kind_c4.2.2.1 rfl h
    · skip
      exact kz_weak [(0, .ref (w_adr E.2.1 5 0)), (1, va_rf (x1)), (2, va_rf (x2))] ⟨rfl, ⟨rfl, ⟨rfl, trivial⟩⟩⟩ rfl (zt_X6_kind_p26 hL  h)
def zL_X6_protocol_p116 (E : zE) (L : Nat) (Q : kx_Rs → wS → Prop) (x1 : Option Nat) (x2 : Int32) (x3 : Option Nat) (w : wS) : Prop := kzE E L kt_M150 116 [(0, .ref (w_adr E.2.1 5 0)), (1, va_rf (x1)), (2, .int x2), (3, va_rf (x3))] [] w Q
def zL_X6_protocol_p62 (E : zE) (L : Nat) (Q : kx_Rs → wS → Prop) (x1 : Option Nat) (x2 : Option Nat) (w : wS) : Prop := kzE E L kt_M150 62 [(0, .ref (w_adr E.2.1 5 0)), (1, va_rf (x1)), (2, va_rf (x2))] [] w Q
def zb_X6_protocol_p116 (E : zE) (L : Nat) (Q : kx_Rs → wS → Prop) (x1 : Option Nat) (x2 : Int32) (x3 : Option Nat) (w : wS) : Prop := (if x3 = none then Q (.inl none) w else (∃ p1, x3 = some p1 ∧ w_l w E.2.1 14 p1 ∧ zw E (L - 24) kt_M137 [.ref (w_adr E.2.1 5 0), va_rf (some (E.1.1 59)), .int (w_i w 14 p1 9), .int (w_i w 14 p1 2)] w (wkr (fun v3 w2 => wle w w2 → (∃ p4, x1 = some p4 ∧ w_l (ws_p w2 14 p1 16 v3) E.2.1 14 p4 ∧ (∃ p5, v3 = some p5 ∧ w_l (ws_p w2 14 p1 16 v3) E.2.1 15 p5 ∧ zL_X6_protocol_p116 E L Q x1 (x2 + 1) (w_p w2 14 p1 7) (ws_i (ws_p (ws_p (ws_p w2 14 p1 16 v3) 15 p5 15 (w_p (ws_p w2 14 p1 16 v3) 14 p4 16)) 15 p5 17 (w_p w2 14 p1 4)) 15 p5 8 x2)))) (fun e w => Q (.inr e) w))))
theorem zt_X6_protocol_p116 {E : zE} {L : Nat} {Q : kx_Rs → wS → Prop} {x1 : Option Nat} {x2 : Int32} {x3 : Option Nat} {w : wS} (hL : 24 ≤ L) (h : zb_X6_protocol_p116 E L Q x1 x2 x3 w) : kzE E L kt_M150 116 [(0, .ref (w_adr E.2.1 5 0)), (1, va_rf (x1)), (2, .int x2), (3, va_rf (x3))] [] w Q := by
  unfold zb_X6_protocol_p116 at h
  refine kz_aload_nv (M := kt_M150) (x := x3) kX6_protocol_c7.2.2.1 rfl ?_
  refine kz_ifnull (M := kt_M150) (x := x3) kX6_protocol_c7.2.2.2.1 (t := 180) rfl h (fun h => ?_) (fun h => ?_)
  · skip
    exact kz_ret (M := kt_M150) kX6_protocol_c11.1 rfl h
  · skip
    refine kz_aload_nv (M := kt_M150) (x := x3) kX6_protocol_c7.2.2.2.2.1 rfl ?_
    refine kz_aload_n (M := kt_M150) kX6_protocol_c7.2.2.2.2.2.1 rfl ?_
    refine kz_getsE (M := kt_M150) (v := va_rf (some (E.1.1 59))) kX6_protocol_c7.2.2.2.2.2.2.1 zs_X6_196 ?_
    refine kz_aload_nv (M := kt_M150) (x := x3) kX6_protocol_c7.2.2.2.2.2.2.2.1 rfl ?_
    obtain ⟨p1, hxp1, hlp1, h⟩ := h
    refine kz_nz0 (x := x3) hxp1 ?_
    refine kz_gfi (M := kt_M150) (c := 14) (o := p1) kX6_protocol_c8.1 wf_X6_83 (.inr (by exact hlp1)) ?_
    refine kz_aload_nv (M := kt_M150) (x := x3) kX6_protocol_c8.2.1 rfl ?_
    refine kz_nz0 (x := x3) hxp1 ?_
    refine kz_gfi (M := kt_M150) (c := 14) (o := p1) kX6_protocol_c8.2.2.1 wf_X6_86 (.inr (by exact hlp1)) ?_
    refine kz_cvr (M := kt_M150) (c := 5) (o := 0) (As := [va_rf (some (E.1.1 59)), .int (w_i w 14 p1 9), .int (w_i w 14 p1 2)]) (rest := [va_rf (x3)]) kX6_protocol_c8.2.2.2.1 wl_X6_39 wMv_137 rfl (.inl rfl) rfl (Nat.le_trans (Nat.le_of_ble_eq_true rfl) hL) (by simp [lg_sl, w_cat, z_ci, z_cr, z_cl, z_cn, kt_M137]) (by simp [kx_cat, w_cat, z_ci, z_cr, z_cl, z_cn]) h (fun v3 w2 hle h => ?_) (fun _ _ _ h => kzx_no rfl h)
    have h := h hle
    have hlp1 := w_l_le hlp1 hle
    refine kz_nz1 (x := x3) hxp1 ?_
    refine kz_pfp (M := kt_M150) (n := v3) (c := 14) (o := p1) kX6_protocol_c8.2.2.2.2.1 wq_X6_146 (.inr (by exact hlp1)) ?_
    refine kz_aload_nv (M := kt_M150) (x := x3) kX6_protocol_c8.2.2.2.2.2.1 rfl ?_
    refine kz_nz0 (x := x3) hxp1 ?_
    refine kz_gfpR (M := kt_M150) (c := 14) (o := p1) v3 kX6_protocol_c8.2.2.2.2.2.2.1 wf_X6_146 (.inr (by exact hlp1)) rd_p_e ?_
    refine kz_aload_nv (M := kt_M150) (x := x1) kX6_protocol_c8.2.2.2.2.2.2.2.1 rfl ?_
    obtain ⟨p4, hxp4, hlp4, h⟩ := h
    refine kz_nz0 (x := x1) hxp4 ?_
    refine kz_gfpR (M := kt_M150) (c := 14) (o := p4) (w_p (ws_p w2 14 p1 16 v3) 14 p4 16) kX6_protocol_c9.1 wf_X6_146 (.inr (by exact hlp4)) rfl ?_
    obtain ⟨p5, hxp5, hlp5, h⟩ := h
    refine kz_nz1 (x := v3) hxp5 ?_
    refine kz_pfp (M := kt_M150) (n := w_p (ws_p w2 14 p1 16 v3) 14 p4 16) (c := 15) (o := p5) kX6_protocol_c9.2.1 wq_X6_121 (.inr (by exact hlp5)) ?_
    refine kz_aload_nv (M := kt_M150) (x := x3) kX6_protocol_c9.2.2.1 rfl ?_
    refine kz_nz0 (x := x3) hxp1 ?_
    refine kz_gfpR (M := kt_M150) (c := 14) (o := p1) v3 kX6_protocol_c9.2.2.2.1 wf_X6_146 (.inr (by exact hlp1)) ((rd_p_p rfl).trans rd_p_e) ?_
    refine kz_aload_nv (M := kt_M150) (x := x3) kX6_protocol_c9.2.2.2.2.1 rfl ?_
    refine kz_nz0 (x := x3) hxp1 ?_
    refine kz_gfpR (M := kt_M150) (c := 14) (o := p1) (w_p w2 14 p1 4) kX6_protocol_c9.2.2.2.2.2.1 wf_X6_99 (.inr (by exact hlp1)) ((rd_p_p rfl).trans (rd_p_p rfl)) ?_
    refine kz_nz1 (x := v3) hxp5 ?_
    refine kz_pfp (M := kt_M150) (n := w_p w2 14 p1 4) (c := 15) (o := p5) kX6_protocol_c9.2.2.2.2.2.2.1 wq_X6_191 (.inr (by exact hlp5)) ?_
    refine kz_aload_nv (M := kt_M150) (x := x3) kX6_protocol_c9.2.2.2.2.2.2.2.1 rfl ?_
    refine kz_nz0 (x := x3) hxp1 ?_
    refine kz_gfpR (M := kt_M150) (c := 14) (o := p1) v3 kX6_protocol_c10.1 wf_X6_146 (.inr (by exact hlp1)) ((rd_p_p rfl).trans ((rd_p_p rfl).trans rd_p_e)) ?_
    refine kz_iload_n (M := kt_M150) kX6_protocol_c10.2.1 rfl ?_
    refine kz_inc (M := kt_M150) [(0, .ref (w_adr E.2.1 5 0)), (1, va_rf (x1)), (3, va_rf (x3))] kX6_protocol_c10.2.2.1 rfl (Nat.le_of_ble_eq_true rfl) ⟨⟨rfl, rfl, .inl rfl⟩, ⟨⟨rfl, rfl, .inr (w_cat (x1))⟩, ⟨⟨rfl, rfl, .inl rfl⟩, trivial⟩⟩⟩ rfl ?_
    refine kz_nz1 (x := v3) hxp5 ?_
    refine kz_pfi (M := kt_M150) (c := 15) (o := p5) kX6_protocol_c10.2.2.2.1 wq_X6_199 (.inr (by exact hlp5)) ?_
    refine kz_aload_nv (M := kt_M150) (x := x3) kX6_protocol_c10.2.2.2.2.1 rfl ?_
    refine kz_nz0 (x := x3) hxp1 ?_
    refine kz_gfpR (M := kt_M150) (c := 14) (o := p1) (w_p w2 14 p1 7) kX6_protocol_c10.2.2.2.2.2.1 wf_X6_89 (.inr (by exact hlp1)) (rd_p_i.trans ((rd_p_p rfl).trans ((rd_p_p rfl).trans (rd_p_p rfl)))) ?_
    refine kz_stv_n (M := kt_M150) (x := w_p w2 14 p1 7) [(0, .ref (w_adr E.2.1 5 0)), (1, va_rf (x1)), (2, .int (x2 + 1))] kX6_protocol_c10.2.2.2.2.2.2.1 (Nat.le_of_ble_eq_true rfl) ⟨⟨rfl, rfl, .inl rfl⟩, ⟨⟨rfl, rfl, .inl rfl⟩, ⟨⟨rfl, rfl, .inr rfl⟩, trivial⟩⟩⟩ rfl ?_
    refine kz_goto (M := kt_M150) kX6_protocol_c10.2.2.2.2.2.2.2.1 (t := 116) rfl ?_
    exact kz_weak [(0, .ref (w_adr E.2.1 5 0)), (1, va_rf (x1)), (2, .int (x2 + 1)), (3, va_rf (w_p w2 14 p1 7))] ⟨rfl, ⟨rfl, ⟨rfl, ⟨rfl, trivial⟩⟩⟩⟩ rfl h
def zb_X6_protocol_p62 (E : zE) (L : Nat) (Q : kx_Rs → wS → Prop) (x1 : Option Nat) (x2 : Option Nat) (w : wS) : Prop := (if x2 = none then (∃ p1, x1 = some p1 ∧ w_l w E.2.1 14 p1 ∧ zw E (L - 24) kt_M137 [.ref (w_adr E.2.1 5 0), va_rf (some (E.1.1 57)), .int (w_i w 14 p1 9), .int (w_i w 14 p1 2)] w (wkr (fun v3 w2 => wle w w2 → (∃ p4, v3 = some p4 ∧ w_l (ws_p w2 14 p1 16 v3) E.2.1 15 p4 ∧ zL_X6_protocol_p116 E L Q x1 0 (w_p w2 14 p1 4) (ws_i (ws_p w2 14 p1 16 v3) 15 p4 16 1))) (fun e w => Q (.inr e) w))) else (∃ p5, x2 = some p5 ∧ w_l w E.2.1 14 p5 ∧ zw E (L - 22) kt_M148 [.ref (w_adr E.2.1 5 0), va_rf (w_p w 14 p5 4)] w (wk0 (fun w6 => wle w w6 → zL_X6_protocol_p62 E L Q x1 (w_p w6 14 p5 7) w6) (fun e w => Q (.inr e) w))))
theorem zt_X6_protocol_p62 {E : zE} {L : Nat} {Q : kx_Rs → wS → Prop} {x1 : Option Nat} {x2 : Option Nat} {w : wS} (hL : 24 ≤ L) (h : zb_X6_protocol_p62 E L Q x1 x2 w) : kzE E L kt_M150 62 [(0, .ref (w_adr E.2.1 5 0)), (1, va_rf (x1)), (2, va_rf (x2))] [] w Q := by
  unfold zb_X6_protocol_p62 at h
  refine kz_aload_nv (M := kt_M150) (x := x2) kX6_protocol_c3.2.2.2.2.2.2.1 rfl ?_
  refine kz_ifnull (M := kt_M150) (x := x2) kX6_protocol_c3.2.2.2.2.2.2.2.1 (t := 82) rfl h (fun h => ?_) (fun h => ?_)
  · skip
    refine kz_aload_nv (M := kt_M150) (x := x1) kX6_protocol_c5.1 rfl ?_
    refine kz_aload_n (M := kt_M150) kX6_protocol_c5.2.1 rfl ?_
    refine kz_getsE (M := kt_M150) (v := va_rf (some (E.1.1 57))) kX6_protocol_c5.2.2.1 zs_X6_115 ?_
    refine kz_aload_nv (M := kt_M150) (x := x1) kX6_protocol_c5.2.2.2.1 rfl ?_
    obtain ⟨p1, hxp1, hlp1, h⟩ := h
    refine kz_nz0 (x := x1) hxp1 ?_
    refine kz_gfi (M := kt_M150) (c := 14) (o := p1) kX6_protocol_c5.2.2.2.2.1 wf_X6_83 (.inr (by exact hlp1)) ?_
    refine kz_aload_nv (M := kt_M150) (x := x1) kX6_protocol_c5.2.2.2.2.2.1 rfl ?_
    refine kz_nz0 (x := x1) hxp1 ?_
    refine kz_gfi (M := kt_M150) (c := 14) (o := p1) kX6_protocol_c5.2.2.2.2.2.2.1 wf_X6_86 (.inr (by exact hlp1)) ?_
    refine kz_cvr (M := kt_M150) (c := 5) (o := 0) (As := [va_rf (some (E.1.1 57)), .int (w_i w 14 p1 9), .int (w_i w 14 p1 2)]) (rest := [va_rf (x1)]) kX6_protocol_c5.2.2.2.2.2.2.2.1 wl_X6_39 wMv_137 rfl (.inl rfl) rfl (Nat.le_trans (Nat.le_of_ble_eq_true rfl) hL) (by simp [lg_sl, w_cat, z_ci, z_cr, z_cl, z_cn, kt_M137]) (by simp [kx_cat, w_cat, z_ci, z_cr, z_cl, z_cn]) h (fun v3 w2 hle h => ?_) (fun _ _ _ h => kzx_no rfl h)
    have h := h hle
    have hlp1 := w_l_le hlp1 hle
    refine kz_nz1 (x := x1) hxp1 ?_
    refine kz_pfp (M := kt_M150) (n := v3) (c := 14) (o := p1) kX6_protocol_c6.1 wq_X6_146 (.inr (by exact hlp1)) ?_
    refine kz_aload_nv (M := kt_M150) (x := x1) kX6_protocol_c6.2.1 rfl ?_
    refine kz_nz0 (x := x1) hxp1 ?_
    refine kz_gfpR (M := kt_M150) (c := 14) (o := p1) v3 kX6_protocol_c6.2.2.1 wf_X6_146 (.inr (by exact hlp1)) rd_p_e ?_
    refine kz_ic (M := kt_M150) 1 kX6_protocol_c6.2.2.2.1 rfl ?_
    obtain ⟨p4, hxp4, hlp4, h⟩ := h
    refine kz_nz1 (x := v3) hxp4 ?_
    refine kz_pfz (M := kt_M150) (c := 15) (o := p4) kX6_protocol_c6.2.2.2.2.1 wq_X6_193 (.inr (by exact hlp4)) (by decide) ?_
    refine kz_ic (M := kt_M150) 0 kX6_protocol_c6.2.2.2.2.2.1 rfl ?_
    refine kz_sti_n (M := kt_M150) [(0, .ref (w_adr E.2.1 5 0)), (1, va_rf (x1))] kX6_protocol_c6.2.2.2.2.2.2.1 (Nat.le_of_ble_eq_true rfl) ⟨⟨rfl, rfl, .inl rfl⟩, ⟨⟨rfl, rfl, .inr (w_cat (x1))⟩, trivial⟩⟩ rfl ?_
    refine kz_aload_nv (M := kt_M150) (x := x1) kX6_protocol_c6.2.2.2.2.2.2.2.1 rfl ?_
    refine kz_nz0 (x := x1) hxp1 ?_
    refine kz_gfpR (M := kt_M150) (c := 14) (o := p1) (w_p w2 14 p1 4) kX6_protocol_c7.1 wf_X6_99 (.inr (by exact hlp1)) (rd_p_i.trans (rd_p_p rfl)) ?_
    refine kz_stv_n (M := kt_M150) (x := w_p w2 14 p1 4) [(0, .ref (w_adr E.2.1 5 0)), (1, va_rf (x1)), (2, .int 0)] kX6_protocol_c7.2.1 (Nat.le_of_ble_eq_true rfl) ⟨⟨rfl, rfl, .inl rfl⟩, ⟨⟨rfl, rfl, .inl rfl⟩, ⟨⟨rfl, rfl, .inr rfl⟩, trivial⟩⟩⟩ rfl ?_
    exact kz_weak [(0, .ref (w_adr E.2.1 5 0)), (1, va_rf (x1)), (2, .int 0), (3, va_rf (w_p w2 14 p1 4))] ⟨rfl, ⟨rfl, ⟨rfl, ⟨rfl, trivial⟩⟩⟩⟩ rfl h
  · skip
    refine kz_aload_n (M := kt_M150) kX6_protocol_c4.1 rfl ?_
    refine kz_aload_nv (M := kt_M150) (x := x2) kX6_protocol_c4.2.1 rfl ?_
    obtain ⟨p5, hxp5, hlp5, h⟩ := h
    refine kz_nz0 (x := x2) hxp5 ?_
    refine kz_gfp (M := kt_M150) (c := 14) (o := p5) kX6_protocol_c4.2.2.1 wf_X6_99 (.inr (by exact hlp5)) ?_
    refine kz_cv0 (M := kt_M150) (c := 5) (o := 0) (As := [va_rf (w_p w 14 p5 4)]) (rest := []) kX6_protocol_c4.2.2.2.1 wl_X6_188 wMv_148 rfl (.inl rfl) rfl (Nat.le_trans (Nat.le_of_ble_eq_true rfl) hL) (by simp [lg_sl, w_cat, z_ci, z_cr, z_cl, z_cn, kt_M148]) (Nat.le_of_ble_eq_true rfl) h (fun w6 hle h => ?_) (fun _ _ _ h => kzx_no rfl h)
    have h := h hle
    have hlp5 := w_l_le hlp5 hle
    refine kz_aload_nv (M := kt_M150) (x := x2) kX6_protocol_c4.2.2.2.2.1 rfl ?_
    refine kz_nz0 (x := x2) hxp5 ?_
    refine kz_gfp (M := kt_M150) (c := 14) (o := p5) kX6_protocol_c4.2.2.2.2.2.1 wf_X6_89 (.inr (by exact hlp5)) ?_
    refine kz_stv_n (M := kt_M150) (x := w_p w6 14 p5 7) [(0, .ref (w_adr E.2.1 5 0)), (1, va_rf (x1))] kX6_protocol_c4.2.2.2.2.2.2.1 (Nat.le_of_ble_eq_true rfl) ⟨⟨rfl, rfl, .inl rfl⟩, ⟨⟨rfl, rfl, .inr (w_cat (x1))⟩, trivial⟩⟩ rfl ?_
    refine kz_goto (M := kt_M150) kX6_protocol_c4.2.2.2.2.2.2.2.1 (t := 62) rfl ?_
    exact kz_weak [(0, .ref (w_adr E.2.1 5 0)), (1, va_rf (x1)), (2, va_rf (w_p w6 14 p5 7))] ⟨rfl, ⟨rfl, ⟨rfl, trivial⟩⟩⟩ rfl h
def zb_X6_protocol_p0 (E : zE) (L : Nat) (Q : kx_Rs → wS → Prop) (x1 : Option Nat) (w : wS) : Prop := (∃ p1, x1 = some p1 ∧ w_l w E.2.1 14 p1 ∧ (if ¬ w_p w 14 p1 0 = some (E.1.1 29) then zw E (L - 23) kt_M132 [.ref (w_adr E.2.1 5 0), va_rf (w_p w 14 p1 4)] w (wk0 (fun w2 => wle w w2 → zL_X6_protocol_p62 E L Q x1 (w_p w2 14 p1 4) w2) (fun e w => Q (.inr e) w)) else zw E (L - 22) kt_M148 [.ref (w_adr E.2.1 5 0), va_rf (w_p w 14 p1 4)] w (wk0 (fun w4 => wle w w4 → zw E (L - 24) kt_M137 [.ref (w_adr E.2.1 5 0), va_rf (some (E.1.1 57)), .int (w_i w4 14 p1 9), .int (w_i w4 14 p1 2)] w4 (wkr (fun v7 w6 => wle w4 w6 → (∃ p8, v7 = some p8 ∧ w_l (ws_p w6 14 p1 16 v7) E.2.1 15 p8 ∧ Q (.inl none) (ws_p (ws_p w6 14 p1 16 v7) 15 p8 17 (w_p w6 14 p1 4)))) (fun e w => Q (.inr e) w))) (fun e w => Q (.inr e) w))))
theorem zt_X6_protocol_p0 {E : zE} {L : Nat} {Q : kx_Rs → wS → Prop} {x1 : Option Nat} {w : wS} (hL : 24 ≤ L) (h : zb_X6_protocol_p0 E L Q x1 w) : kzE E L kt_M150 0 [(0, .ref (w_adr E.2.1 5 0)), (1, va_rf (x1))] [] w Q := by
  unfold zb_X6_protocol_p0 at h
  refine kz_aload_nv (M := kt_M150) (x := x1) kX6_protocol_c0.1 rfl ?_
  obtain ⟨p1, hxp1, hlp1, h⟩ := h
  refine kz_nz0 (x := x1) hxp1 ?_
  refine kz_gfp (M := kt_M150) (c := 14) (o := p1) kX6_protocol_c0.2.1 wf_X6_124 (.inr (by exact hlp1)) ?_
  refine kz_getsE (M := kt_M150) (v := va_rf (some (E.1.1 29))) kX6_protocol_c0.2.2.1 zs_X6_186 ?_
  refine kz_acmp_ne (M := kt_M150) (x := w_p w 14 p1 0) (y := some (E.1.1 29)) kX6_protocol_c0.2.2.2.1 (t := 49) rfl h (fun h => ?_) (fun h => ?_)
  · skip
    refine kz_aload_n (M := kt_M150) kX6_protocol_c2.2.2.2.2.2.2.2.1 rfl ?_
    refine kz_aload_nv (M := kt_M150) (x := x1) kX6_protocol_c3.1 rfl ?_
    refine kz_nz0 (x := x1) hxp1 ?_
    refine kz_gfp (M := kt_M150) (c := 14) (o := p1) kX6_protocol_c3.2.1 wf_X6_99 (.inr (by exact hlp1)) ?_
    refine kz_cv0 (M := kt_M150) (c := 5) (o := 0) (As := [va_rf (w_p w 14 p1 4)]) (rest := []) kX6_protocol_c3.2.2.1 wl_X6_134 wMv_132 rfl (.inl rfl) rfl (Nat.le_trans (Nat.le_of_ble_eq_true rfl) hL) (by simp [lg_sl, w_cat, z_ci, z_cr, z_cl, z_cn, kt_M132]) (Nat.le_of_ble_eq_true rfl) h (fun w2 hle h => ?_) (fun _ _ _ h => kzx_no rfl h)
    have h := h hle
    have hlp1 := w_l_le hlp1 hle
    refine kz_aload_nv (M := kt_M150) (x := x1) kX6_protocol_c3.2.2.2.1 rfl ?_
    refine kz_nz0 (x := x1) hxp1 ?_
    refine kz_gfp (M := kt_M150) (c := 14) (o := p1) kX6_protocol_c3.2.2.2.2.1 wf_X6_99 (.inr (by exact hlp1)) ?_
    refine kz_stv_n (M := kt_M150) (x := w_p w2 14 p1 4) [(0, .ref (w_adr E.2.1 5 0)), (1, va_rf (x1))] kX6_protocol_c3.2.2.2.2.2.1 (Nat.le_of_ble_eq_true rfl) ⟨⟨rfl, rfl, .inl rfl⟩, ⟨⟨rfl, rfl, .inr (w_cat (x1))⟩, trivial⟩⟩ rfl ?_
    exact kz_weak [(0, .ref (w_adr E.2.1 5 0)), (1, va_rf (x1)), (2, va_rf (w_p w2 14 p1 4))] ⟨rfl, ⟨rfl, ⟨rfl, trivial⟩⟩⟩ rfl h
  · skip
    refine kz_aload_n (M := kt_M150) kX6_protocol_c0.2.2.2.2.1 rfl ?_
    refine kz_aload_nv (M := kt_M150) (x := x1) kX6_protocol_c0.2.2.2.2.2.1 rfl ?_
    refine kz_nz0 (x := x1) hxp1 ?_
    refine kz_gfp (M := kt_M150) (c := 14) (o := p1) kX6_protocol_c0.2.2.2.2.2.2.1 wf_X6_99 (.inr (by exact hlp1)) ?_
    refine kz_cv0 (M := kt_M150) (c := 5) (o := 0) (As := [va_rf (w_p w 14 p1 4)]) (rest := []) kX6_protocol_c0.2.2.2.2.2.2.2.1 wl_X6_188 wMv_148 rfl (.inl rfl) rfl (Nat.le_trans (Nat.le_of_ble_eq_true rfl) hL) (by simp [lg_sl, w_cat, z_ci, z_cr, z_cl, z_cn, kt_M148]) (Nat.le_of_ble_eq_true rfl) h (fun w4 hle h => ?_) (fun _ _ _ h => kzx_no rfl h)
    have h := h hle
    have hlp1 := w_l_le hlp1 hle
    refine kz_aload_nv (M := kt_M150) (x := x1) kX6_protocol_c1.1 rfl ?_
    refine kz_aload_n (M := kt_M150) kX6_protocol_c1.2.1 rfl ?_
    refine kz_getsE (M := kt_M150) (v := va_rf (some (E.1.1 57))) kX6_protocol_c1.2.2.1 zs_X6_115 ?_
    refine kz_aload_nv (M := kt_M150) (x := x1) kX6_protocol_c1.2.2.2.1 rfl ?_
    refine kz_nz0 (x := x1) hxp1 ?_
    refine kz_gfi (M := kt_M150) (c := 14) (o := p1) kX6_protocol_c1.2.2.2.2.1 wf_X6_83 (.inr (by exact hlp1)) ?_
    refine kz_aload_nv (M := kt_M150) (x := x1) kX6_protocol_c1.2.2.2.2.2.1 rfl ?_
    refine kz_nz0 (x := x1) hxp1 ?_
    refine kz_gfi (M := kt_M150) (c := 14) (o := p1) kX6_protocol_c1.2.2.2.2.2.2.1 wf_X6_86 (.inr (by exact hlp1)) ?_
    refine kz_cvr (M := kt_M150) (c := 5) (o := 0) (As := [va_rf (some (E.1.1 57)), .int (w_i w4 14 p1 9), .int (w_i w4 14 p1 2)]) (rest := [va_rf (x1)]) kX6_protocol_c1.2.2.2.2.2.2.2.1 wl_X6_39 wMv_137 rfl (.inl rfl) rfl (Nat.le_trans (Nat.le_of_ble_eq_true rfl) hL) (by simp [lg_sl, w_cat, z_ci, z_cr, z_cl, z_cn, kt_M137]) (by simp [kx_cat, w_cat, z_ci, z_cr, z_cl, z_cn]) h (fun v7 w6 hle h => ?_) (fun _ _ _ h => kzx_no rfl h)
    have h := h hle
    have hlp1 := w_l_le hlp1 hle
    refine kz_nz1 (x := x1) hxp1 ?_
    refine kz_pfp (M := kt_M150) (n := v7) (c := 14) (o := p1) kX6_protocol_c2.1 wq_X6_146 (.inr (by exact hlp1)) ?_
    refine kz_aload_nv (M := kt_M150) (x := x1) kX6_protocol_c2.2.1 rfl ?_
    refine kz_nz0 (x := x1) hxp1 ?_
    refine kz_gfpR (M := kt_M150) (c := 14) (o := p1) v7 kX6_protocol_c2.2.2.1 wf_X6_146 (.inr (by exact hlp1)) rd_p_e ?_
    refine kz_aload_nv (M := kt_M150) (x := x1) kX6_protocol_c2.2.2.2.1 rfl ?_
    refine kz_nz0 (x := x1) hxp1 ?_
    refine kz_gfpR (M := kt_M150) (c := 14) (o := p1) (w_p w6 14 p1 4) kX6_protocol_c2.2.2.2.2.1 wf_X6_99 (.inr (by exact hlp1)) (rd_p_p rfl) ?_
    obtain ⟨p8, hxp8, hlp8, h⟩ := h
    refine kz_nz1 (x := v7) hxp8 ?_
    refine kz_pfp (M := kt_M150) (n := w_p w6 14 p1 4) (c := 15) (o := p8) kX6_protocol_c2.2.2.2.2.2.1 wq_X6_191 (.inr (by exact hlp8)) ?_
    exact kz_ret (M := kt_M150) kX6_protocol_c2.2.2.2.2.2.2.1 rfl h
def zL_X6_routine_p265 (E : zE) (L : Nat) (Q : kx_Rs → wS → Prop) (x1 : Option Nat) (x2 : Option Nat) (x3 : Int32) (x4 : Option Nat) (w : wS) : Prop := kzE E L kt_M153 265 [(0, .ref (w_adr E.2.1 5 0)), (1, va_rf (x1)), (2, va_rf (x2)), (3, .int x3), (4, va_rf (x4))] [] w Q
def zL_X6_routine_p184 (E : zE) (L : Nat) (Q : kx_Rs → wS → Prop) (x1 : Option Nat) (x2 : Option Nat) (x3 : Int32) (x4 : Option Nat) (w : wS) : Prop := kzE E L kt_M153 184 [(0, .ref (w_adr E.2.1 5 0)), (1, va_rf (x1)), (2, va_rf (x2)), (3, .int x3), (4, va_rf (x4))] [] w Q
def zL_X6_routine_p24 (E : zE) (L : Nat) (Q : kx_Rs → wS → Prop) (x1 : Option Nat) (x2 : Option Nat) (x3 : Int32) (x4 : Option Nat) (w : wS) : Prop := kzE E L kt_M153 24 [(0, .ref (w_adr E.2.1 5 0)), (1, va_rf (x1)), (2, va_rf (x2)), (3, .int x3), (4, va_rf (x4))] [] w Q
def zb_X6_routine_p328 (E : zE) (L : Nat) (Q : kx_Rs → wS → Prop) (x1 : Option Nat) (x3 : Int32) (y0 : Option Nat) (y2 : Option Nat) (w : wS) : Prop := (∃ p1, x1 = some p1 ∧ w_l w E.2.1 14 p1 ∧ zw E (L - 24) kt_M137 [.ref (w_adr E.2.1 5 0), va_rf (y0), .int (w_i w 14 p1 9), .int (w_i w 14 p1 2)] w (wkr (fun v3 w2 => wle w w2 → (∃ p4, y2 = some p4 ∧ w_l w2 E.2.1 14 p4 ∧ (∃ p5, w_p (ws_p w2 14 p4 16 v3) 14 p1 16 = some p5 ∧ w_l (ws_p w2 14 p4 16 v3) E.2.1 15 p5 ∧ (∃ p6, w_p (ws_i (ws_p w2 14 p4 16 v3) 15 p5 5 (w_i w2 14 p1 8)) 14 p1 16 = some p6 ∧ w_l (ws_i (ws_p w2 14 p4 16 v3) 15 p5 5 (w_i w2 14 p1 8)) E.2.1 15 p6 ∧ Q (.inl none) (ws_i (ws_p (ws_i (ws_p w2 14 p4 16 v3) 15 p5 5 (w_i w2 14 p1 8)) 15 p6 19 x1) 14 p1 10 x3))))) (fun e w => Q (.inr e) w)))
theorem zt_X6_routine_p328 {E : zE} {L : Nat} {Q : kx_Rs → wS → Prop} {x1 : Option Nat} {x3 : Int32} {y0 : Option Nat} {y2 : Option Nat} {w : wS} (hL : 24 ≤ L) (h : zb_X6_routine_p328 E L Q x1 x3 y0 y2 w) : kzE E L kt_M153 328 [(0, .ref (w_adr E.2.1 5 0)), (1, va_rf (x1)), (3, .int x3)] [va_rf (y0), .ref (w_adr E.2.1 5 0), va_rf (y2)] w Q := by
  unfold zb_X6_routine_p328 at h
  refine kz_aload_nv (M := kt_M153) (x := x1) kX6_routine_c18.2.1 rfl ?_
  obtain ⟨p1, hxp1, hlp1, h⟩ := h
  refine kz_nz0 (x := x1) hxp1 ?_
  refine kz_gfi (M := kt_M153) (c := 14) (o := p1) kX6_routine_c18.2.2.1 wf_X6_83 (.inr (by exact hlp1)) ?_
  refine kz_aload_nv (M := kt_M153) (x := x1) kX6_routine_c18.2.2.2.1 rfl ?_
  refine kz_nz0 (x := x1) hxp1 ?_
  refine kz_gfi (M := kt_M153) (c := 14) (o := p1) kX6_routine_c18.2.2.2.2.1 wf_X6_86 (.inr (by exact hlp1)) ?_
  refine kz_cvr (M := kt_M153) (c := 5) (o := 0) (As := [va_rf (y0), .int (w_i w 14 p1 9), .int (w_i w 14 p1 2)]) (rest := [va_rf (y2)]) kX6_routine_c18.2.2.2.2.2.1 wl_X6_39 wMv_137 rfl (.inl rfl) rfl (Nat.le_trans (Nat.le_of_ble_eq_true rfl) hL) (by simp [lg_sl, w_cat, z_ci, z_cr, z_cl, z_cn, kt_M137]) (by simp [kx_cat, w_cat, z_ci, z_cr, z_cl, z_cn]) h (fun v3 w2 hle h => ?_) (fun _ _ _ h => kzx_no rfl h)
  have h := h hle
  have hlp1 := w_l_le hlp1 hle
  obtain ⟨p4, hxp4, hlp4, h⟩ := h
  refine kz_nz1 (x := y2) hxp4 ?_
  refine kz_pfp (M := kt_M153) (n := v3) (c := 14) (o := p4) kX6_routine_c18.2.2.2.2.2.2.1 wq_X6_146 (.inr (by exact hlp4)) ?_
  refine kz_aload_nv (M := kt_M153) (x := x1) kX6_routine_c18.2.2.2.2.2.2.2.1 rfl ?_
  refine kz_nz0 (x := x1) hxp1 ?_
  refine kz_gfpR (M := kt_M153) (c := 14) (o := p1) (w_p (ws_p w2 14 p4 16 v3) 14 p1 16) kX6_routine_c19.1 wf_X6_146 (.inr (by exact hlp1)) rfl ?_
  refine kz_aload_nv (M := kt_M153) (x := x1) kX6_routine_c19.2.1 rfl ?_
  refine kz_nz0 (x := x1) hxp1 ?_
  refine kz_gfiR (M := kt_M153) (c := 14) (o := p1) (w_i w2 14 p1 8) kX6_routine_c19.2.2.1 wf_X6_105 (.inr (by exact hlp1)) rd_i_p ?_
  obtain ⟨p5, hxp5, hlp5, h⟩ := h
  refine kz_nz1 (x := w_p (ws_p w2 14 p4 16 v3) 14 p1 16) hxp5 ?_
  refine kz_pfi (M := kt_M153) (c := 15) (o := p5) kX6_routine_c19.2.2.2.1 wq_X6_46 (.inr (by exact hlp5)) ?_
  refine kz_aload_nv (M := kt_M153) (x := x1) kX6_routine_c19.2.2.2.2.1 rfl ?_
  refine kz_nz0 (x := x1) hxp1 ?_
  refine kz_gfpR (M := kt_M153) (c := 14) (o := p1) (w_p (ws_i (ws_p w2 14 p4 16 v3) 15 p5 5 (w_i w2 14 p1 8)) 14 p1 16) kX6_routine_c19.2.2.2.2.2.1 wf_X6_146 (.inr (by exact hlp1)) rfl ?_
  refine kz_aload_nv (M := kt_M153) (x := x1) kX6_routine_c19.2.2.2.2.2.2.1 rfl ?_
  obtain ⟨p6, hxp6, hlp6, h⟩ := h
  refine kz_nz1 (x := w_p (ws_i (ws_p w2 14 p4 16 v3) 15 p5 5 (w_i w2 14 p1 8)) 14 p1 16) hxp6 ?_
  refine kz_pfp (M := kt_M153) (n := x1) (c := 15) (o := p6) kX6_routine_c19.2.2.2.2.2.2.2.1 wq_X6_154 (.inr (by exact hlp6)) ?_
  refine kz_aload_nv (M := kt_M153) (x := x1) kX6_routine_c20.1 rfl ?_
  refine kz_iload_n (M := kt_M153) kX6_routine_c20.2.1 rfl ?_
  refine kz_nz1 (x := x1) hxp1 ?_
  refine kz_pfi (M := kt_M153) (c := 14) (o := p1) kX6_routine_c20.2.2.1 wq_X6_227 (.inr (by exact hlp1)) ?_
  exact kz_ret (M := kt_M153) kX6_routine_c20.2.2.2.1 rfl h
def zb_X6_routine_p302 (E : zE) (L : Nat) (Q : kx_Rs → wS → Prop) (x1 : Option Nat) (x2 : Option Nat) (x3 : Int32) (w : wS) : Prop := (∃ p1, x1 = some p1 ∧ w_l (ws_p w 5 0 3 x2) E.2.1 14 p1 ∧ (if ¬ w_p w 14 p1 0 = some (E.1.1 33) then zb_X6_routine_p328 E L Q x1 x3 (some (E.1.1 56)) x1 (ws_p w 5 0 3 x2) else zb_X6_routine_p328 E L Q x1 x3 (some (E.1.1 60)) x1 (ws_p w 5 0 3 x2)))
theorem zt_X6_routine_p302 {E : zE} {L : Nat} {Q : kx_Rs → wS → Prop} {x1 : Option Nat} {x2 : Option Nat} {x3 : Int32} {w : wS} (hL : 24 ≤ L) (h : zb_X6_routine_p302 E L Q x1 x2 x3 w) : kzE E L kt_M153 302 [(0, .ref (w_adr E.2.1 5 0)), (1, va_rf (x1)), (2, va_rf (x2)), (3, .int x3)] [] w Q := by
  unfold zb_X6_routine_p302 at h
  refine kz_aload_n (M := kt_M153) kX6_routine_c16.2.2.2.2.2.1 rfl ?_
  refine kz_aload_nv (M := kt_M153) (x := x2) kX6_routine_c16.2.2.2.2.2.2.1 rfl ?_
  refine kz_pfp (M := kt_M153) (n := x2) (c := 5) (o := 0) kX6_routine_c16.2.2.2.2.2.2.2.1 wq_X6_23 (.inl rfl) ?_
  refine kz_aload_nv (M := kt_M153) (x := x1) kX6_routine_c17.1 rfl ?_
  refine kz_aload_n (M := kt_M153) kX6_routine_c17.2.1 rfl ?_
  refine kz_aload_nv (M := kt_M153) (x := x1) kX6_routine_c17.2.2.1 rfl ?_
  obtain ⟨p1, hxp1, hlp1, h⟩ := h
  refine kz_nz0 (x := x1) hxp1 ?_
  refine kz_gfpR (M := kt_M153) (c := 14) (o := p1) (w_p w 14 p1 0) kX6_routine_c17.2.2.2.1 wf_X6_124 (.inr (by exact hlp1)) (rd_p_p rfl) ?_
  refine kz_getsE (M := kt_M153) (v := va_rf (some (E.1.1 33))) kX6_routine_c17.2.2.2.2.1 zs_X6_214 ?_
  refine kz_acmp_ne (M := kt_M153) (x := w_p w 14 p1 0) (y := some (E.1.1 33)) kX6_routine_c17.2.2.2.2.2.1 (t := 325) rfl h (fun h => ?_) (fun h => ?_)
  · skip
    refine kz_getsE (M := kt_M153) (v := va_rf (some (E.1.1 56))) kX6_routine_c18.1 zs_X6_225 ?_
    exact kz_weak [(0, .ref (w_adr E.2.1 5 0)), (1, va_rf (x1)), (3, .int x3)] ⟨rfl, ⟨rfl, ⟨rfl, trivial⟩⟩⟩ rfl (zt_X6_routine_p328 hL  h)
  · skip
    refine kz_getsE (M := kt_M153) (v := va_rf (some (E.1.1 60))) kX6_routine_c17.2.2.2.2.2.2.1 zs_X6_223 ?_
    refine kz_goto (M := kt_M153) kX6_routine_c17.2.2.2.2.2.2.2.1 (t := 328) rfl ?_
    exact kz_weak [(0, .ref (w_adr E.2.1 5 0)), (1, va_rf (x1)), (3, .int x3)] ⟨rfl, ⟨rfl, ⟨rfl, trivial⟩⟩⟩ rfl (zt_X6_routine_p328 hL  h)
def zb_X6_routine_p265 (E : zE) (L : Nat) (Q : kx_Rs → wS → Prop) (x1 : Option Nat) (x2 : Option Nat) (x3 : Int32) (x4 : Option Nat) (w : wS) : Prop := (if x4 = none then (∃ p1, x1 = some p1 ∧ w_l w E.2.1 14 p1 ∧ zw E (L - 23) kt_M149 [.ref (w_adr E.2.1 5 0), va_rf (w_p w 14 p1 4)] w (wk0 (fun w2 => wle w w2 → zw E (L - 21) kt_M140 [.ref (w_adr E.2.1 5 0), va_rf (w_p w2 14 p1 6)] w2 (wk0 (fun w4 => wle w2 w4 → zb_X6_routine_p302 E L Q x1 x2 x3 w4) (fun e w => Q (.inr e) w))) (fun e w => Q (.inr e) w))) else zw E (L - 22) kt_M136 [.ref (w_adr E.2.1 5 0), va_rf (x4)] w (wk0 (fun w6 => wle w w6 → (∃ p8, x4 = some p8 ∧ w_l w6 E.2.1 14 p8 ∧ zL_X6_routine_p265 E L Q x1 x2 x3 (w_p w6 14 p8 7) w6)) (fun e w => Q (.inr e) w)))
theorem zt_X6_routine_p265 {E : zE} {L : Nat} {Q : kx_Rs → wS → Prop} {x1 : Option Nat} {x2 : Option Nat} {x3 : Int32} {x4 : Option Nat} {w : wS} (hL : 24 ≤ L) (h : zb_X6_routine_p265 E L Q x1 x2 x3 x4 w) : kzE E L kt_M153 265 [(0, .ref (w_adr E.2.1 5 0)), (1, va_rf (x1)), (2, va_rf (x2)), (3, .int x3), (4, va_rf (x4))] [] w Q := by
  unfold zb_X6_routine_p265 at h
  refine kz_aloadv (M := kt_M153) (x := x4) kX6_routine_c14.2.2.2.2.1 rfl ?_
  refine kz_ifnull (M := kt_M153) (x := x4) kX6_routine_c14.2.2.2.2.2.1 (t := 286) rfl h (fun h => ?_) (fun h => ?_)
  · skip
    refine kz_aload_n (M := kt_M153) kX6_routine_c15.2.2.2.2.2.1 rfl ?_
    refine kz_aload_nv (M := kt_M153) (x := x1) kX6_routine_c15.2.2.2.2.2.2.1 rfl ?_
    obtain ⟨p1, hxp1, hlp1, h⟩ := h
    refine kz_nz0 (x := x1) hxp1 ?_
    refine kz_gfp (M := kt_M153) (c := 14) (o := p1) kX6_routine_c15.2.2.2.2.2.2.2.1 wf_X6_99 (.inr (by exact hlp1)) ?_
    refine kz_cv0 (M := kt_M153) (c := 5) (o := 0) (As := [va_rf (w_p w 14 p1 4)]) (rest := []) kX6_routine_c16.1 wl_X6_54 wMv_149 rfl (.inl rfl) rfl (Nat.le_trans (Nat.le_of_ble_eq_true rfl) hL) (by simp [lg_sl, w_cat, z_ci, z_cr, z_cl, z_cn, kt_M149]) (Nat.le_of_ble_eq_true rfl) h (fun w2 hle h => ?_) (fun _ _ _ h => kzx_no rfl h)
    have h := h hle
    have hlp1 := w_l_le hlp1 hle
    refine kz_aload_n (M := kt_M153) kX6_routine_c16.2.1 rfl ?_
    refine kz_aload_nv (M := kt_M153) (x := x1) kX6_routine_c16.2.2.1 rfl ?_
    refine kz_nz0 (x := x1) hxp1 ?_
    refine kz_gfp (M := kt_M153) (c := 14) (o := p1) kX6_routine_c16.2.2.2.1 wf_X6_220 (.inr (by exact hlp1)) ?_
    refine kz_cv0 (M := kt_M153) (c := 5) (o := 0) (As := [va_rf (w_p w2 14 p1 6)]) (rest := []) kX6_routine_c16.2.2.2.2.1 wl_X6_137 wMv_140 rfl (.inl rfl) rfl (Nat.le_trans (Nat.le_of_ble_eq_true rfl) hL) (by simp [lg_sl, w_cat, z_ci, z_cr, z_cl, z_cn, kt_M140]) (Nat.le_of_ble_eq_true rfl) h (fun w4 hle h => ?_) (fun _ _ _ h => kzx_no rfl h)
    have h := h hle
    have hlp1 := w_l_le hlp1 hle
    exact kz_weak [(0, .ref (w_adr E.2.1 5 0)), (1, va_rf (x1)), (2, va_rf (x2)), (3, .int x3)] ⟨rfl, ⟨rfl, ⟨rfl, ⟨rfl, trivial⟩⟩⟩⟩ rfl (zt_X6_routine_p302 hL  h)
  · skip
    refine kz_aload_n (M := kt_M153) kX6_routine_c14.2.2.2.2.2.2.1 rfl ?_
    refine kz_aloadv (M := kt_M153) (x := x4) kX6_routine_c14.2.2.2.2.2.2.2.1 rfl ?_
    refine kz_cv0 (M := kt_M153) (c := 5) (o := 0) (As := [va_rf (x4)]) (rest := []) kX6_routine_c15.1 wl_X6_96 wMv_136 rfl (.inl rfl) rfl (Nat.le_trans (Nat.le_of_ble_eq_true rfl) hL) (by simp [lg_sl, w_cat, z_ci, z_cr, z_cl, z_cn, kt_M136]) (Nat.le_of_ble_eq_true rfl) h (fun w6 hle h => ?_) (fun _ _ _ h => kzx_no rfl h)
    have h := h hle
    refine kz_aloadv (M := kt_M153) (x := x4) kX6_routine_c15.2.1 rfl ?_
    obtain ⟨p8, hxp8, hlp8, h⟩ := h
    refine kz_nz0 (x := x4) hxp8 ?_
    refine kz_gfp (M := kt_M153) (c := 14) (o := p8) kX6_routine_c15.2.2.1 wf_X6_89 (.inr (by exact hlp8)) ?_
    refine kz_stv (M := kt_M153) (x := w_p w6 14 p8 7) [(0, .ref (w_adr E.2.1 5 0)), (1, va_rf (x1)), (2, va_rf (x2)), (3, .int x3)] kX6_routine_c15.2.2.2.1 (Nat.le_of_ble_eq_true rfl) ⟨⟨rfl, rfl, .inl rfl⟩, ⟨⟨rfl, rfl, .inl rfl⟩, ⟨⟨rfl, rfl, .inl rfl⟩, ⟨⟨rfl, rfl, .inr rfl⟩, trivial⟩⟩⟩⟩ rfl ?_
    refine kz_goto (M := kt_M153) kX6_routine_c15.2.2.2.2.1 (t := 265) rfl ?_
    exact kz_weak [(0, .ref (w_adr E.2.1 5 0)), (1, va_rf (x1)), (2, va_rf (x2)), (3, .int x3), (4, va_rf (w_p w6 14 p8 7))] ⟨rfl, ⟨rfl, ⟨rfl, ⟨rfl, ⟨rfl, trivial⟩⟩⟩⟩⟩ rfl h
def zb_X6_routine_p184 (E : zE) (L : Nat) (Q : kx_Rs → wS → Prop) (x1 : Option Nat) (x2 : Option Nat) (x3 : Int32) (x4 : Option Nat) (w : wS) : Prop := (if x4 = none then (∃ p1, x1 = some p1 ∧ w_l w E.2.1 14 p1 ∧ (if ¬ w_p w 14 p1 0 = some (E.1.1 33) then (if w_i w 14 p1 11 = 0 then zL_X6_routine_p265 E L Q x1 x2 x3 (w_p w 14 p1 5) w else zw E (L - 21) kt_M140 [.ref (w_adr E.2.1 5 0), va_rf (w_p w 14 p1 4)] w (wk0 (fun w2 => wle w w2 → zb_X6_routine_p302 E L Q x1 x2 x3 w2) (fun e w => Q (.inr e) w))) else zw E (L - 23) kt_M149 [.ref (w_adr E.2.1 5 0), va_rf (w_p w 14 p1 4)] w (wk0 (fun w4 => wle w w4 → zb_X6_routine_p302 E L Q x1 x2 x3 w4) (fun e w => Q (.inr e) w)))) else (∃ p6, x4 = some p6 ∧ w_l w E.2.1 14 p6 ∧ (∃ p7, w_p w 14 p6 16 = some p7 ∧ w_l w E.2.1 15 p7 ∧ zL_X6_routine_p184 E L Q x1 x2 x3 (w_p w 14 p6 7) (ws_p (ws_p w 15 p7 4 (w_p w 5 0 3)) 5 0 3 (w_p w 14 p6 16)))))
theorem zt_X6_routine_p184 {E : zE} {L : Nat} {Q : kx_Rs → wS → Prop} {x1 : Option Nat} {x2 : Option Nat} {x3 : Int32} {x4 : Option Nat} {w : wS} (hL : 24 ≤ L) (h : zb_X6_routine_p184 E L Q x1 x2 x3 x4 w) : kzE E L kt_M153 184 [(0, .ref (w_adr E.2.1 5 0)), (1, va_rf (x1)), (2, va_rf (x2)), (3, .int x3), (4, va_rf (x4))] [] w Q := by
  unfold zb_X6_routine_p184 at h
  refine kz_aloadv (M := kt_M153) (x := x4) kX6_routine_c10.2.1 rfl ?_
  refine kz_ifnull (M := kt_M153) (x := x4) kX6_routine_c10.2.2.1 (t := 220) rfl h (fun h => ?_) (fun h => ?_)
  · skip
    refine kz_aload_nv (M := kt_M153) (x := x1) kX6_routine_c12.1 rfl ?_
    obtain ⟨p1, hxp1, hlp1, h⟩ := h
    refine kz_nz0 (x := x1) hxp1 ?_
    refine kz_gfp (M := kt_M153) (c := 14) (o := p1) kX6_routine_c12.2.1 wf_X6_124 (.inr (by exact hlp1)) ?_
    refine kz_getsE (M := kt_M153) (v := va_rf (some (E.1.1 33))) kX6_routine_c12.2.2.1 zs_X6_214 ?_
    refine kz_acmp_ne (M := kt_M153) (x := w_p w 14 p1 0) (y := some (E.1.1 33)) kX6_routine_c12.2.2.2.1 (t := 241) rfl h (fun h => ?_) (fun h => ?_)
    · skip
      refine kz_aload_nv (M := kt_M153) (x := x1) kX6_routine_c13.2.1 rfl ?_
      refine kz_nz0 (x := x1) hxp1 ?_
      refine kz_gfi (M := kt_M153) (c := 14) (o := p1) kX6_routine_c13.2.2.1 wf_X6_217 (.inr (by exact hlp1)) ?_
      refine kz_if_eq (M := kt_M153) kX6_routine_c13.2.2.2.1 (t := 259) rfl h (fun h => ?_) (fun h => ?_)
      · skip
        refine kz_aload_nv (M := kt_M153) (x := x1) kX6_routine_c14.2.1 rfl ?_
        refine kz_nz0 (x := x1) hxp1 ?_
        refine kz_gfp (M := kt_M153) (c := 14) (o := p1) kX6_routine_c14.2.2.1 wf_X6_112 (.inr (by exact hlp1)) ?_
        refine kz_stv (M := kt_M153) (x := w_p w 14 p1 5) [(0, .ref (w_adr E.2.1 5 0)), (1, va_rf (x1)), (2, va_rf (x2)), (3, .int x3)] kX6_routine_c14.2.2.2.1 (Nat.le_of_ble_eq_true rfl) ⟨⟨rfl, rfl, .inl rfl⟩, ⟨⟨rfl, rfl, .inl rfl⟩, ⟨⟨rfl, rfl, .inl rfl⟩, ⟨⟨rfl, rfl, .inr rfl⟩, trivial⟩⟩⟩⟩ rfl ?_
        exact kz_weak [(0, .ref (w_adr E.2.1 5 0)), (1, va_rf (x1)), (2, va_rf (x2)), (3, .int x3), (4, va_rf (w_p w 14 p1 5))] ⟨rfl, ⟨rfl, ⟨rfl, ⟨rfl, ⟨rfl, trivial⟩⟩⟩⟩⟩ rfl h
      · skip
        refine kz_aload_n (M := kt_M153) kX6_routine_c13.2.2.2.2.1 rfl ?_
        refine kz_aload_nv (M := kt_M153) (x := x1) kX6_routine_c13.2.2.2.2.2.1 rfl ?_
        refine kz_nz0 (x := x1) hxp1 ?_
        refine kz_gfp (M := kt_M153) (c := 14) (o := p1) kX6_routine_c13.2.2.2.2.2.2.1 wf_X6_99 (.inr (by exact hlp1)) ?_
        refine kz_cv0 (M := kt_M153) (c := 5) (o := 0) (As := [va_rf (w_p w 14 p1 4)]) (rest := []) kX6_routine_c13.2.2.2.2.2.2.2.1 wl_X6_137 wMv_140 rfl (.inl rfl) rfl (Nat.le_trans (Nat.le_of_ble_eq_true rfl) hL) (by simp [lg_sl, w_cat, z_ci, z_cr, z_cl, z_cn, kt_M140]) (Nat.le_of_ble_eq_true rfl) h (fun w2 hle h => ?_) (fun _ _ _ h => kzx_no rfl h)
        have h := h hle
        have hlp1 := w_l_le hlp1 hle
        refine kz_goto (M := kt_M153) kX6_routine_c14.1 (t := 302) rfl ?_
        exact kz_weak [(0, .ref (w_adr E.2.1 5 0)), (1, va_rf (x1)), (2, va_rf (x2)), (3, .int x3)] ⟨rfl, ⟨rfl, ⟨rfl, ⟨rfl, trivial⟩⟩⟩⟩ rfl (zt_X6_routine_p302 hL  h)
    · skip
      refine kz_aload_n (M := kt_M153) kX6_routine_c12.2.2.2.2.1 rfl ?_
      refine kz_aload_nv (M := kt_M153) (x := x1) kX6_routine_c12.2.2.2.2.2.1 rfl ?_
      refine kz_nz0 (x := x1) hxp1 ?_
      refine kz_gfp (M := kt_M153) (c := 14) (o := p1) kX6_routine_c12.2.2.2.2.2.2.1 wf_X6_99 (.inr (by exact hlp1)) ?_
      refine kz_cv0 (M := kt_M153) (c := 5) (o := 0) (As := [va_rf (w_p w 14 p1 4)]) (rest := []) kX6_routine_c12.2.2.2.2.2.2.2.1 wl_X6_54 wMv_149 rfl (.inl rfl) rfl (Nat.le_trans (Nat.le_of_ble_eq_true rfl) hL) (by simp [lg_sl, w_cat, z_ci, z_cr, z_cl, z_cn, kt_M149]) (Nat.le_of_ble_eq_true rfl) h (fun w4 hle h => ?_) (fun _ _ _ h => kzx_no rfl h)
      have h := h hle
      have hlp1 := w_l_le hlp1 hle
      refine kz_goto (M := kt_M153) kX6_routine_c13.1 (t := 302) rfl ?_
      exact kz_weak [(0, .ref (w_adr E.2.1 5 0)), (1, va_rf (x1)), (2, va_rf (x2)), (3, .int x3)] ⟨rfl, ⟨rfl, ⟨rfl, ⟨rfl, trivial⟩⟩⟩⟩ rfl (zt_X6_routine_p302 hL  h)
  · skip
    refine kz_aloadv (M := kt_M153) (x := x4) kX6_routine_c10.2.2.2.1 rfl ?_
    obtain ⟨p6, hxp6, hlp6, h⟩ := h
    refine kz_nz0 (x := x4) hxp6 ?_
    refine kz_gfp (M := kt_M153) (c := 14) (o := p6) kX6_routine_c10.2.2.2.2.1 wf_X6_146 (.inr (by exact hlp6)) ?_
    refine kz_aload_n (M := kt_M153) kX6_routine_c10.2.2.2.2.2.1 rfl ?_
    refine kz_gfp (M := kt_M153) (c := 5) (o := 0) kX6_routine_c10.2.2.2.2.2.2.1 wf_X6_23 (.inl rfl) ?_
    obtain ⟨p7, hxp7, hlp7, h⟩ := h
    refine kz_nz1 (x := w_p w 14 p6 16) hxp7 ?_
    refine kz_pfp (M := kt_M153) (n := w_p w 5 0 3) (c := 15) (o := p7) kX6_routine_c10.2.2.2.2.2.2.2.1 wq_X6_63 (.inr (by exact hlp7)) ?_
    refine kz_aload_n (M := kt_M153) kX6_routine_c11.1 rfl ?_
    refine kz_aloadv (M := kt_M153) (x := x4) kX6_routine_c11.2.1 rfl ?_
    refine kz_nz0 (x := x4) hxp6 ?_
    refine kz_gfpR (M := kt_M153) (c := 14) (o := p6) (w_p w 14 p6 16) kX6_routine_c11.2.2.1 wf_X6_146 (.inr (by exact hlp6)) (rd_p_p rfl) ?_
    refine kz_pfp (M := kt_M153) (n := w_p w 14 p6 16) (c := 5) (o := 0) kX6_routine_c11.2.2.2.1 wq_X6_23 (.inl rfl) ?_
    refine kz_aloadv (M := kt_M153) (x := x4) kX6_routine_c11.2.2.2.2.1 rfl ?_
    refine kz_nz0 (x := x4) hxp6 ?_
    refine kz_gfpR (M := kt_M153) (c := 14) (o := p6) (w_p w 14 p6 7) kX6_routine_c11.2.2.2.2.2.1 wf_X6_89 (.inr (by exact hlp6)) ((rd_p_p rfl).trans (rd_p_p rfl)) ?_
    refine kz_stv (M := kt_M153) (x := w_p w 14 p6 7) [(0, .ref (w_adr E.2.1 5 0)), (1, va_rf (x1)), (2, va_rf (x2)), (3, .int x3)] kX6_routine_c11.2.2.2.2.2.2.1 (Nat.le_of_ble_eq_true rfl) ⟨⟨rfl, rfl, .inl rfl⟩, ⟨⟨rfl, rfl, .inl rfl⟩, ⟨⟨rfl, rfl, .inl rfl⟩, ⟨⟨rfl, rfl, .inr rfl⟩, trivial⟩⟩⟩⟩ rfl ?_
    refine kz_goto (M := kt_M153) kX6_routine_c11.2.2.2.2.2.2.2.1 (t := 184) rfl ?_
    exact kz_weak [(0, .ref (w_adr E.2.1 5 0)), (1, va_rf (x1)), (2, va_rf (x2)), (3, .int x3), (4, va_rf (w_p w 14 p6 7))] ⟨rfl, ⟨rfl, ⟨rfl, ⟨rfl, ⟨rfl, trivial⟩⟩⟩⟩⟩ rfl h
def zb_X6_routine_p168 (E : zE) (L : Nat) (Q : kx_Rs → wS → Prop) (x1 : Option Nat) (x2 : Option Nat) (x3 : Int32) (x4 : Option Nat) (w : wS) : Prop := (∃ p1, x4 = some p1 ∧ w_l w E.2.1 14 p1 ∧ zL_X6_routine_p24 E L Q x1 x2 x3 (w_p w 14 p1 7) w)
theorem zt_X6_routine_p168 {E : zE} {L : Nat} {Q : kx_Rs → wS → Prop} {x1 : Option Nat} {x2 : Option Nat} {x3 : Int32} {x4 : Option Nat} {w : wS} (hL : 24 ≤ L) (h : zb_X6_routine_p168 E L Q x1 x2 x3 x4 w) : kzE E L kt_M153 168 [(0, .ref (w_adr E.2.1 5 0)), (1, va_rf (x1)), (2, va_rf (x2)), (3, .int x3), (4, va_rf (x4))] [] w Q := by
  unfold zb_X6_routine_p168 at h
  refine kz_aloadv (M := kt_M153) (x := x4) kX6_routine_c9.2.2.1 rfl ?_
  obtain ⟨p1, hxp1, hlp1, h⟩ := h
  refine kz_nz0 (x := x4) hxp1 ?_
  refine kz_gfp (M := kt_M153) (c := 14) (o := p1) kX6_routine_c9.2.2.2.1 wf_X6_89 (.inr (by exact hlp1)) ?_
  refine kz_stv (M := kt_M153) (x := w_p w 14 p1 7) [(0, .ref (w_adr E.2.1 5 0)), (1, va_rf (x1)), (2, va_rf (x2)), (3, .int x3)] kX6_routine_c9.2.2.2.2.1 (Nat.le_of_ble_eq_true rfl) ⟨⟨rfl, rfl, .inl rfl⟩, ⟨⟨rfl, rfl, .inl rfl⟩, ⟨⟨rfl, rfl, .inl rfl⟩, ⟨⟨rfl, rfl, .inr rfl⟩, trivial⟩⟩⟩⟩ rfl ?_
  refine kz_goto (M := kt_M153) kX6_routine_c9.2.2.2.2.2.1 (t := 24) rfl ?_
  exact kz_weak [(0, .ref (w_adr E.2.1 5 0)), (1, va_rf (x1)), (2, va_rf (x2)), (3, .int x3), (4, va_rf (w_p w 14 p1 7))] ⟨rfl, ⟨rfl, ⟨rfl, ⟨rfl, ⟨rfl, trivial⟩⟩⟩⟩⟩ rfl h
def zb_X6_routine_p64 (E : zE) (L : Nat) (Q : kx_Rs → wS → Prop) (x1 : Option Nat) (x2 : Option Nat) (x3 : Int32) (x4 : Option Nat) (y0 : Option Nat) (w : wS) : Prop := (∃ p1, x4 = some p1 ∧ w_l w E.2.1 14 p1 ∧ zw E (L - 24) kt_M226 [.ref (w_adr E.2.1 3 0), va_rf (y0), .int (w_i w 14 p1 9), .int (w_i w 14 p1 2)] w (wkr (fun v3 w2 => wle w w2 → zw E (L - 22) kt_M145 [.ref (w_adr E.2.1 5 0), va_rf (x4), va_rf (v3)] w2 (wk0 (fun w4 => wle w2 w4 → (∃ p6, v3 = some p6 ∧ w_l w4 E.2.1 15 p6 ∧ ((w_i w4 14 p1 13 = 0 ∨ w_i w4 14 p1 13 = 1) ∧ ((w_i w4 14 p1 15 = 0 ∨ w_i w4 14 p1 15 = 1) ∧ (∃ p7, x1 = some p7 ∧ w_l (ws_p (ws_i (ws_i (ws_i (ws_i (ws_i w4 15 p6 9 (w_i w4 14 p1 13)) 15 p6 11 1) 15 p6 12 (w_i w4 14 p1 15)) 5 0 4 ((w_i w4 5 0 4) + 1)) 15 p6 3 (w_i w4 5 0 4)) 14 p1 16 v3) E.2.1 14 p7 ∧ (if ¬ w_p w4 14 p7 0 = some (E.1.1 11) then zb_X6_routine_p168 E L Q x1 x2 x3 x4 (ws_p (ws_i (ws_i (ws_i (ws_i (ws_i w4 15 p6 9 (w_i w4 14 p1 13)) 15 p6 11 1) 15 p6 12 (w_i w4 14 p1 15)) 5 0 4 ((w_i w4 5 0 4) + 1)) 15 p6 3 (w_i w4 5 0 4)) 14 p1 16 v3) else (if ¬ w_i w4 14 p1 15 = 0 then zb_X6_routine_p168 E L Q x1 x2 x3 x4 (ws_p (ws_i (ws_i (ws_i (ws_i (ws_i w4 15 p6 9 (w_i w4 14 p1 13)) 15 p6 11 1) 15 p6 12 (w_i w4 14 p1 15)) 5 0 4 ((w_i w4 5 0 4) + 1)) 15 p6 3 (w_i w4 5 0 4)) 14 p1 16 v3) else zw E (L - 22) kt_M56 [.ref (w_adr E.2.1 2 0), .int 6, .int (w_i w4 14 p1 2)] (ws_p (ws_i (ws_i (ws_i (ws_i (ws_i w4 15 p6 9 (w_i w4 14 p1 13)) 15 p6 11 1) 15 p6 12 (w_i w4 14 p1 15)) 5 0 4 ((w_i w4 5 0 4) + 1)) 15 p6 3 (w_i w4 5 0 4)) 14 p1 16 v3) (wk0 (fun w8 => wle (ws_p (ws_i (ws_i (ws_i (ws_i (ws_i w4 15 p6 9 (w_i w4 14 p1 13)) 15 p6 11 1) 15 p6 12 (w_i w4 14 p1 15)) 5 0 4 ((w_i w4 5 0 4) + 1)) 15 p6 3 (w_i w4 5 0 4)) 14 p1 16 v3) w8 → zb_X6_routine_p168 E L Q x1 x2 x3 x4 w8) (fun e w => Q (.inr e) w))))))))) (fun e w => Q (.inr e) w))) (fun e w => Q (.inr e) w)))
theorem zt_X6_routine_p64 {E : zE} {L : Nat} {Q : kx_Rs → wS → Prop} {x1 : Option Nat} {x2 : Option Nat} {x3 : Int32} {x4 : Option Nat} {y0 : Option Nat} {w : wS} (hL : 24 ≤ L) (h : zb_X6_routine_p64 E L Q x1 x2 x3 x4 y0 w) : kzE E L kt_M153 64 [(0, .ref (w_adr E.2.1 5 0)), (1, va_rf (x1)), (2, va_rf (x2)), (3, .int x3), (4, va_rf (x4))] [va_rf (y0), .ref (w_adr E.2.1 3 0)] w Q := by
  unfold zb_X6_routine_p64 at h
  refine kz_aloadv (M := kt_M153) (x := x4) kX6_routine_c3.2.2.2.2.1 rfl ?_
  obtain ⟨p1, hxp1, hlp1, h⟩ := h
  refine kz_nz0 (x := x4) hxp1 ?_
  refine kz_gfi (M := kt_M153) (c := 14) (o := p1) kX6_routine_c3.2.2.2.2.2.1 wf_X6_83 (.inr (by exact hlp1)) ?_
  refine kz_aloadv (M := kt_M153) (x := x4) kX6_routine_c3.2.2.2.2.2.2.1 rfl ?_
  refine kz_nz0 (x := x4) hxp1 ?_
  refine kz_gfi (M := kt_M153) (c := 14) (o := p1) kX6_routine_c3.2.2.2.2.2.2.2.1 wf_X6_86 (.inr (by exact hlp1)) ?_
  refine kz_cvr (M := kt_M153) (c := 3) (o := 0) (As := [va_rf (y0), .int (w_i w 14 p1 9), .int (w_i w 14 p1 2)]) (rest := []) kX6_routine_c4.1 wl_X6_58 wMv_226 rfl (.inl rfl) rfl (Nat.le_trans (Nat.le_of_ble_eq_true rfl) hL) (by simp [lg_sl, w_cat, z_ci, z_cr, z_cl, z_cn, kt_M226]) (Nat.le_of_ble_eq_true rfl) h (fun v3 w2 hle h => ?_) (fun _ _ _ h => kzx_no rfl h)
  have h := h hle
  have hlp1 := w_l_le hlp1 hle
  refine kz_stv (M := kt_M153) (x := v3) [(0, .ref (w_adr E.2.1 5 0)), (1, va_rf (x1)), (2, va_rf (x2)), (3, .int x3), (4, va_rf (x4))] kX6_routine_c4.2.1 (Nat.le_of_ble_eq_true rfl) ⟨⟨rfl, rfl, .inl rfl⟩, ⟨⟨rfl, rfl, .inl rfl⟩, ⟨⟨rfl, rfl, .inl rfl⟩, ⟨⟨rfl, rfl, .inl rfl⟩, ⟨⟨rfl, rfl, .inr (w_cat (x4))⟩, trivial⟩⟩⟩⟩⟩ rfl ?_
  refine kz_aload_n (M := kt_M153) kX6_routine_c4.2.2.1 rfl ?_
  refine kz_aloadv (M := kt_M153) (x := x4) kX6_routine_c4.2.2.2.1 rfl ?_
  refine kz_aloadv (M := kt_M153) (x := v3) kX6_routine_c4.2.2.2.2.1 rfl ?_
  refine kz_cv0 (M := kt_M153) (c := 5) (o := 0) (As := [va_rf (x4), va_rf (v3)]) (rest := []) kX6_routine_c4.2.2.2.2.2.1 wl_X6_164 wMv_145 rfl (.inl rfl) rfl (Nat.le_trans (Nat.le_of_ble_eq_true rfl) hL) (by simp [lg_sl, w_cat, z_ci, z_cr, z_cl, z_cn, kt_M145]) (Nat.le_of_ble_eq_true rfl) h (fun w4 hle h => ?_) (fun _ _ _ h => kzx_no rfl h)
  have h := h hle
  have hlp1 := w_l_le hlp1 hle
  refine kz_aloadv (M := kt_M153) (x := v3) kX6_routine_c4.2.2.2.2.2.2.1 rfl ?_
  refine kz_aloadv (M := kt_M153) (x := x4) kX6_routine_c4.2.2.2.2.2.2.2.1 rfl ?_
  refine kz_nz0 (x := x4) hxp1 ?_
  refine kz_gfi (M := kt_M153) (c := 14) (o := p1) kX6_routine_c5.1 wf_X6_148 (.inr (by exact hlp1)) ?_
  obtain ⟨p6, hxp6, hlp6, h⟩ := h
  refine kz_nz1 (x := v3) hxp6 ?_
  obtain ⟨h0, h⟩ := h
  refine kz_pfz (M := kt_M153) (c := 15) (o := p6) kX6_routine_c5.2.1 wq_X6_151 (.inr (by exact hlp6)) h0 ?_
  refine kz_aloadv (M := kt_M153) (x := v3) kX6_routine_c5.2.2.1 rfl ?_
  refine kz_ic (M := kt_M153) 1 kX6_routine_c5.2.2.2.1 rfl ?_
  refine kz_nz1 (x := v3) hxp6 ?_
  refine kz_pfz (M := kt_M153) (c := 15) (o := p6) kX6_routine_c5.2.2.2.2.1 wq_X6_205 (.inr (by exact hlp6)) (by decide) ?_
  refine kz_aloadv (M := kt_M153) (x := v3) kX6_routine_c5.2.2.2.2.2.1 rfl ?_
  refine kz_aloadv (M := kt_M153) (x := x4) kX6_routine_c5.2.2.2.2.2.2.1 rfl ?_
  refine kz_nz0 (x := x4) hxp1 ?_
  refine kz_gfiR (M := kt_M153) (c := 14) (o := p1) (w_i w4 14 p1 15) kX6_routine_c5.2.2.2.2.2.2.2.1 wf_X6_202 (.inr (by exact hlp1)) ((rd_i_i rfl).trans (rd_i_i rfl)) ?_
  refine kz_nz1 (x := v3) hxp6 ?_
  obtain ⟨h0, h⟩ := h
  refine kz_pfz (M := kt_M153) (c := 15) (o := p6) kX6_routine_c6.1 wq_X6_208 (.inr (by exact hlp6)) h0 ?_
  refine kz_aloadv (M := kt_M153) (x := v3) kX6_routine_c6.2.1 rfl ?_
  refine kz_aload_n (M := kt_M153) kX6_routine_c6.2.2.1 rfl ?_
  refine kz_dup (M := kt_M153) kX6_routine_c6.2.2.2.1 rfl ?_
  refine kz_gfiR (M := kt_M153) (c := 5) (o := 0) (w_i w4 5 0 4) kX6_routine_c6.2.2.2.2.1 wf_X6_27 (.inl rfl) ((rd_i_i rfl).trans ((rd_i_i rfl).trans (rd_i_i rfl))) ?_
  refine kz_dup_x1 (M := kt_M153) kX6_routine_c6.2.2.2.2.2.1 ⟨rfl, rfl⟩ ?_
  refine kz_ic (M := kt_M153) 1 kX6_routine_c6.2.2.2.2.2.2.1 rfl ?_
  refine kz_iadd (M := kt_M153) kX6_routine_c6.2.2.2.2.2.2.2.1 ?_
  refine kz_pfi (M := kt_M153) (c := 5) (o := 0) kX6_routine_c7.1 wq_X6_27 (.inl rfl) ?_
  refine kz_nz1 (x := v3) hxp6 ?_
  refine kz_pfi (M := kt_M153) (c := 15) (o := p6) kX6_routine_c7.2.1 wq_X6_66 (.inr (by exact hlp6)) ?_
  refine kz_aloadv (M := kt_M153) (x := x4) kX6_routine_c7.2.2.1 rfl ?_
  refine kz_aloadv (M := kt_M153) (x := v3) kX6_routine_c7.2.2.2.1 rfl ?_
  refine kz_nz1 (x := x4) hxp1 ?_
  refine kz_pfp (M := kt_M153) (n := v3) (c := 14) (o := p1) kX6_routine_c7.2.2.2.2.1 wq_X6_146 (.inr (by exact hlp1)) ?_
  refine kz_aload_nv (M := kt_M153) (x := x1) kX6_routine_c7.2.2.2.2.2.1 rfl ?_
  obtain ⟨p7, hxp7, hlp7, h⟩ := h
  refine kz_nz0 (x := x1) hxp7 ?_
  refine kz_gfpR (M := kt_M153) (c := 14) (o := p7) (w_p w4 14 p7 0) kX6_routine_c7.2.2.2.2.2.2.1 wf_X6_124 (.inr (by exact hlp7)) ((rd_p_p rfl).trans (rd_p_i.trans (rd_p_i.trans (rd_p_i.trans (rd_p_i.trans rd_p_i))))) ?_
  refine kz_getsE (M := kt_M153) (v := va_rf (some (E.1.1 11))) kX6_routine_c7.2.2.2.2.2.2.2.1 zs_X6_211 ?_
  refine kz_acmp_ne (M := kt_M153) (x := w_p w4 14 p7 0) (y := some (E.1.1 11)) kX6_routine_c8.1 (t := 168) rfl h (fun h => ?_) (fun h => ?_)
  · skip
    exact kz_weak [(0, .ref (w_adr E.2.1 5 0)), (1, va_rf (x1)), (2, va_rf (x2)), (3, .int x3), (4, va_rf (x4))] ⟨rfl, ⟨rfl, ⟨rfl, ⟨rfl, ⟨rfl, trivial⟩⟩⟩⟩⟩ rfl (zt_X6_routine_p168 hL  h)
  · skip
    refine kz_aloadv (M := kt_M153) (x := x4) kX6_routine_c8.2.1 rfl ?_
    refine kz_nz0 (x := x4) hxp1 ?_
    refine kz_gfiR (M := kt_M153) (c := 14) (o := p1) (w_i w4 14 p1 15) kX6_routine_c8.2.2.1 wf_X6_202 (.inr (by exact hlp1)) (rd_i_p.trans ((rd_i_i rfl).trans ((rd_i_i rfl).trans ((rd_i_i rfl).trans ((rd_i_i rfl).trans (rd_i_i rfl)))))) ?_
    refine kz_if_ne (M := kt_M153) kX6_routine_c8.2.2.2.1 (t := 168) rfl h (fun h => ?_) (fun h => ?_)
    · skip
      exact kz_weak [(0, .ref (w_adr E.2.1 5 0)), (1, va_rf (x1)), (2, va_rf (x2)), (3, .int x3), (4, va_rf (x4))] ⟨rfl, ⟨rfl, ⟨rfl, ⟨rfl, ⟨rfl, trivial⟩⟩⟩⟩⟩ rfl (zt_X6_routine_p168 hL  h)
    · skip
      refine kz_aload_n (M := kt_M153) kX6_routine_c8.2.2.2.2.1 rfl ?_
      refine kz_gfc (M := kt_M153) (x := 8) (c := 5) (o := 0) kX6_routine_c8.2.2.2.2.2.1 wf_X6_15 (.inl rfl) ?_
      refine kz_bi (M := kt_M153) 6 kX6_routine_c8.2.2.2.2.2.2.1 rfl ?_
      refine kz_aloadv (M := kt_M153) (x := x4) kX6_routine_c8.2.2.2.2.2.2.2.1 rfl ?_
      refine kz_nz0 (x := x4) hxp1 ?_
      refine kz_gfiR (M := kt_M153) (c := 14) (o := p1) (w_i w4 14 p1 2) kX6_routine_c9.1 wf_X6_86 (.inr (by exact hlp1)) (rd_i_p.trans ((rd_i_i rfl).trans ((rd_i_i rfl).trans ((rd_i_i rfl).trans ((rd_i_i rfl).trans (rd_i_i rfl)))))) ?_
      refine kz_cv0 (M := kt_M153) (c := 2) (o := 0) (As := [.int 6, .int (w_i w4 14 p1 2)]) (rest := []) kX6_routine_c9.2.1 wl_X6_70 wMv_56 rfl (.inl rfl) rfl (Nat.le_trans (Nat.le_of_ble_eq_true rfl) hL) (Nat.le_of_ble_eq_true rfl) (Nat.le_of_ble_eq_true rfl) h (fun w8 hle h => ?_) (fun _ _ _ h => kzx_no rfl h)
      have h := h hle
      have hlp1 := w_l_le hlp1 hle
      have hlp6 := w_l_le hlp6 hle
      have hlp7 := w_l_le hlp7 hle
      exact kz_weak [(0, .ref (w_adr E.2.1 5 0)), (1, va_rf (x1)), (2, va_rf (x2)), (3, .int x3), (4, va_rf (x4))] ⟨rfl, ⟨rfl, ⟨rfl, ⟨rfl, ⟨rfl, trivial⟩⟩⟩⟩⟩ rfl (zt_X6_routine_p168 hL  h)
def zb_X6_routine_p24 (E : zE) (L : Nat) (Q : kx_Rs → wS → Prop) (x1 : Option Nat) (x2 : Option Nat) (x3 : Int32) (x4 : Option Nat) (w : wS) : Prop := (if x4 = none then (∃ p1, x1 = some p1 ∧ w_l w E.2.1 14 p1 ∧ zL_X6_routine_p184 E L Q x1 x2 x3 (w_p w 14 p1 3) w) else (∃ p2, x4 = some p2 ∧ w_l w E.2.1 14 p2 ∧ (if w_i w 14 p2 14 = 0 then (if w_i w 14 p2 15 = 0 then zb_X6_routine_p64 E L Q x1 x2 x3 x4 (some (E.1.1 54)) w else zb_X6_routine_p64 E L Q x1 x2 x3 x4 (some (E.1.1 55)) w) else zb_X6_routine_p64 E L Q x1 x2 x3 x4 (some (E.1.1 53)) w)))
theorem zt_X6_routine_p24 {E : zE} {L : Nat} {Q : kx_Rs → wS → Prop} {x1 : Option Nat} {x2 : Option Nat} {x3 : Int32} {x4 : Option Nat} {w : wS} (hL : 24 ≤ L) (h : zb_X6_routine_p24 E L Q x1 x2 x3 x4 w) : kzE E L kt_M153 24 [(0, .ref (w_adr E.2.1 5 0)), (1, va_rf (x1)), (2, va_rf (x2)), (3, .int x3), (4, va_rf (x4))] [] w Q := by
  unfold zb_X6_routine_p24 at h
  refine kz_aloadv (M := kt_M153) (x := x4) kX6_routine_c1.2.2.2.2.2.1 rfl ?_
  refine kz_ifnull (M := kt_M153) (x := x4) kX6_routine_c1.2.2.2.2.2.2.1 (t := 178) rfl h (fun h => ?_) (fun h => ?_)
  · skip
    refine kz_aload_nv (M := kt_M153) (x := x1) kX6_routine_c9.2.2.2.2.2.2.1 rfl ?_
    obtain ⟨p1, hxp1, hlp1, h⟩ := h
    refine kz_nz0 (x := x1) hxp1 ?_
    refine kz_gfp (M := kt_M153) (c := 14) (o := p1) kX6_routine_c9.2.2.2.2.2.2.2.1 wf_X6_93 (.inr (by exact hlp1)) ?_
    refine kz_stv (M := kt_M153) (x := w_p w 14 p1 3) [(0, .ref (w_adr E.2.1 5 0)), (1, va_rf (x1)), (2, va_rf (x2)), (3, .int x3)] kX6_routine_c10.1 (Nat.le_of_ble_eq_true rfl) ⟨⟨rfl, rfl, .inl rfl⟩, ⟨⟨rfl, rfl, .inl rfl⟩, ⟨⟨rfl, rfl, .inl rfl⟩, ⟨⟨rfl, rfl, .inr rfl⟩, trivial⟩⟩⟩⟩ rfl ?_
    exact kz_weak [(0, .ref (w_adr E.2.1 5 0)), (1, va_rf (x1)), (2, va_rf (x2)), (3, .int x3), (4, va_rf (w_p w 14 p1 3))] ⟨rfl, ⟨rfl, ⟨rfl, ⟨rfl, ⟨rfl, trivial⟩⟩⟩⟩⟩ rfl h
  · skip
    refine kz_aload_n (M := kt_M153) kX6_routine_c1.2.2.2.2.2.2.2.1 rfl ?_
    refine kz_gfc (M := kt_M153) (x := 12) (c := 5) (o := 0) kX6_routine_c2.1 wf_X6_19 (.inl rfl) ?_
    refine kz_aloadv (M := kt_M153) (x := x4) kX6_routine_c2.2.1 rfl ?_
    obtain ⟨p2, hxp2, hlp2, h⟩ := h
    refine kz_nz0 (x := x4) hxp2 ?_
    refine kz_gfi (M := kt_M153) (c := 14) (o := p2) kX6_routine_c2.2.2.1 wf_X6_108 (.inr (by exact hlp2)) ?_
    refine kz_if_eq (M := kt_M153) kX6_routine_c2.2.2.2.1 (t := 47) rfl h (fun h => ?_) (fun h => ?_)
    · skip
      refine kz_aloadv (M := kt_M153) (x := x4) kX6_routine_c2.2.2.2.2.2.2.1 rfl ?_
      refine kz_nz0 (x := x4) hxp2 ?_
      refine kz_gfi (M := kt_M153) (c := 14) (o := p2) kX6_routine_c2.2.2.2.2.2.2.2.1 wf_X6_202 (.inr (by exact hlp2)) ?_
      refine kz_if_eq (M := kt_M153) kX6_routine_c3.1 (t := 61) rfl h (fun h => ?_) (fun h => ?_)
      · skip
        refine kz_getsE (M := kt_M153) (v := va_rf (some (E.1.1 54))) kX6_routine_c3.2.2.2.1 zs_X6_157 ?_
        exact kz_weak [(0, .ref (w_adr E.2.1 5 0)), (1, va_rf (x1)), (2, va_rf (x2)), (3, .int x3), (4, va_rf (x4))] ⟨rfl, ⟨rfl, ⟨rfl, ⟨rfl, ⟨rfl, trivial⟩⟩⟩⟩⟩ rfl (zt_X6_routine_p64 hL  h)
      · skip
        refine kz_getsE (M := kt_M153) (v := va_rf (some (E.1.1 55))) kX6_routine_c3.2.1 zs_X6_143 ?_
        refine kz_goto (M := kt_M153) kX6_routine_c3.2.2.1 (t := 64) rfl ?_
        exact kz_weak [(0, .ref (w_adr E.2.1 5 0)), (1, va_rf (x1)), (2, va_rf (x2)), (3, .int x3), (4, va_rf (x4))] ⟨rfl, ⟨rfl, ⟨rfl, ⟨rfl, ⟨rfl, trivial⟩⟩⟩⟩⟩ rfl (zt_X6_routine_p64 hL  h)
    · skip
      refine kz_getsE (M := kt_M153) (v := va_rf (some (E.1.1 53))) kX6_routine_c2.2.2.2.2.1 zs_X6_31 ?_
      refine kz_goto (M := kt_M153) kX6_routine_c2.2.2.2.2.2.1 (t := 64) rfl ?_
      exact kz_weak [(0, .ref (w_adr E.2.1 5 0)), (1, va_rf (x1)), (2, va_rf (x2)), (3, .int x3), (4, va_rf (x4))] ⟨rfl, ⟨rfl, ⟨rfl, ⟨rfl, ⟨rfl, trivial⟩⟩⟩⟩⟩ rfl (zt_X6_routine_p64 hL  h)
def zb_X6_routine_p0 (E : zE) (L : Nat) (Q : kx_Rs → wS → Prop) (x1 : Option Nat) (w : wS) : Prop := (∃ p1, x1 = some p1 ∧ w_l w E.2.1 14 p1 ∧ zw E (L - 23) kt_M132 [.ref (w_adr E.2.1 5 0), va_rf (w_p w 14 p1 3)] w (wk0 (fun w2 => wle w w2 → zL_X6_routine_p24 E L Q x1 (w_p w 5 0 3) (w_i w2 5 0 4) (w_p w2 14 p1 3) w2) (fun e w => Q (.inr e) w)))
theorem zt_X6_routine_p0 {E : zE} {L : Nat} {Q : kx_Rs → wS → Prop} {x1 : Option Nat} {w : wS} (hL : 24 ≤ L) (h : zb_X6_routine_p0 E L Q x1 w) : kzE E L kt_M153 0 [(0, .ref (w_adr E.2.1 5 0)), (1, va_rf (x1))] [] w Q := by
  unfold zb_X6_routine_p0 at h
  refine kz_aload_n (M := kt_M153) kX6_routine_c0.1 rfl ?_
  refine kz_gfp (M := kt_M153) (c := 5) (o := 0) kX6_routine_c0.2.1 wf_X6_23 (.inl rfl) ?_
  refine kz_stv_n (M := kt_M153) (x := w_p w 5 0 3) [(0, .ref (w_adr E.2.1 5 0)), (1, va_rf (x1))] kX6_routine_c0.2.2.1 (Nat.le_of_ble_eq_true rfl) ⟨⟨rfl, rfl, .inl rfl⟩, ⟨⟨rfl, rfl, .inr (w_cat (x1))⟩, trivial⟩⟩ rfl ?_
  refine kz_aload_n (M := kt_M153) kX6_routine_c0.2.2.2.1 rfl ?_
  refine kz_aload_nv (M := kt_M153) (x := x1) kX6_routine_c0.2.2.2.2.1 rfl ?_
  obtain ⟨p1, hxp1, hlp1, h⟩ := h
  refine kz_nz0 (x := x1) hxp1 ?_
  refine kz_gfp (M := kt_M153) (c := 14) (o := p1) kX6_routine_c0.2.2.2.2.2.1 wf_X6_93 (.inr (by exact hlp1)) ?_
  refine kz_cv0 (M := kt_M153) (c := 5) (o := 0) (As := [va_rf (w_p w 14 p1 3)]) (rest := []) kX6_routine_c0.2.2.2.2.2.2.1 wl_X6_134 wMv_132 rfl (.inl rfl) rfl (Nat.le_trans (Nat.le_of_ble_eq_true rfl) hL) (by simp [lg_sl, w_cat, z_ci, z_cr, z_cl, z_cn, kt_M132]) (Nat.le_of_ble_eq_true rfl) h (fun w2 hle h => ?_) (fun _ _ _ h => kzx_no rfl h)
  have h := h hle
  have hlp1 := w_l_le hlp1 hle
  refine kz_aload_n (M := kt_M153) kX6_routine_c0.2.2.2.2.2.2.2.1 rfl ?_
  refine kz_gfi (M := kt_M153) (c := 5) (o := 0) kX6_routine_c1.1 wf_X6_27 (.inl rfl) ?_
  refine kz_sti_n (M := kt_M153) [(0, .ref (w_adr E.2.1 5 0)), (1, va_rf (x1)), (2, va_rf (w_p w 5 0 3))] kX6_routine_c1.2.1 (Nat.le_of_ble_eq_true rfl) ⟨⟨rfl, rfl, .inl rfl⟩, ⟨⟨rfl, rfl, .inl rfl⟩, ⟨⟨rfl, rfl, .inr (w_cat (w_p w 5 0 3))⟩, trivial⟩⟩⟩ rfl ?_
  refine kz_aload_nv (M := kt_M153) (x := x1) kX6_routine_c1.2.2.1 rfl ?_
  refine kz_nz0 (x := x1) hxp1 ?_
  refine kz_gfp (M := kt_M153) (c := 14) (o := p1) kX6_routine_c1.2.2.2.1 wf_X6_93 (.inr (by exact hlp1)) ?_
  refine kz_stv (M := kt_M153) (x := w_p w2 14 p1 3) [(0, .ref (w_adr E.2.1 5 0)), (1, va_rf (x1)), (2, va_rf (w_p w 5 0 3)), (3, .int (w_i w2 5 0 4))] kX6_routine_c1.2.2.2.2.1 (Nat.le_of_ble_eq_true rfl) ⟨⟨rfl, rfl, .inl rfl⟩, ⟨⟨rfl, rfl, .inl rfl⟩, ⟨⟨rfl, rfl, .inl rfl⟩, ⟨⟨rfl, rfl, .inr rfl⟩, trivial⟩⟩⟩⟩ rfl ?_
  exact kz_weak [(0, .ref (w_adr E.2.1 5 0)), (1, va_rf (x1)), (2, va_rf (w_p w 5 0 3)), (3, .int (w_i w2 5 0 4)), (4, va_rf (w_p w2 14 p1 3))] ⟨rfl, ⟨rfl, ⟨rfl, ⟨rfl, ⟨rfl, trivial⟩⟩⟩⟩⟩ rfl h
def zL_X6_action_p164 (E : zE) (L : Nat) (Q : kx_Rs → wS → Prop) (x2 : Option Nat) (w : wS) : Prop := kzE E L kt_M131 164 [(0, .ref (w_adr E.2.1 5 0)), (2, va_rf (x2))] [] w Q
def zb_X6_action_p208 (E : zE) (L : Nat) (Q : kx_Rs → wS → Prop) (w : wS) : Prop := Q (.inl none) w
theorem zt_X6_action_p208 {E : zE} {L : Nat} {Q : kx_Rs → wS → Prop} {w : wS} (hL : 25 ≤ L) (h : zb_X6_action_p208 E L Q  w) : kzE E L kt_M131 208 [(0, .ref (w_adr E.2.1 5 0))] [] w Q := by
  unfold zb_X6_action_p208 at h
  exact kz_ret (M := kt_M131) kX6_action_c8.2.2.2.2.1 rfl h
def zb_X6_action_p164 (E : zE) (L : Nat) (Q : kx_Rs → wS → Prop) (x2 : Option Nat) (w : wS) : Prop := (if x2 = none then zb_X6_action_p208 E L Q w else zw E (L - 21) kt_M134 [.ref (w_adr E.2.1 5 0), va_rf (x2)] w (wk0 (fun w1 => wle w w1 → (∃ p3, x2 = some p3 ∧ w_l w1 E.2.1 14 p3 ∧ zL_X6_action_p164 E L Q (w_p w1 14 p3 7) w1)) (fun e w => Q (.inr e) w)))
theorem zt_X6_action_p164 {E : zE} {L : Nat} {Q : kx_Rs → wS → Prop} {x2 : Option Nat} {w : wS} (hL : 25 ≤ L) (h : zb_X6_action_p164 E L Q x2 w) : kzE E L kt_M131 164 [(0, .ref (w_adr E.2.1 5 0)), (2, va_rf (x2))] [] w Q := by
  unfold zb_X6_action_p164 at h
  refine kz_aload_nv (M := kt_M131) (x := x2) kX6_action_c5.2.2.2.2.2.2.1 rfl ?_
  refine kz_ifnull (M := kt_M131) (x := x2) kX6_action_c5.2.2.2.2.2.2.2.1 (t := 181) rfl h (fun h => ?_) (fun h => ?_)
  · skip
    refine kz_goto (M := kt_M131) kX6_action_c6.2.2.2.2.2.2.2.1 (t := 208) rfl ?_
    exact kz_weak [(0, .ref (w_adr E.2.1 5 0))] ⟨rfl, trivial⟩ rfl (zt_X6_action_p208 hL  h)
  · skip
    refine kz_aload_n (M := kt_M131) kX6_action_c6.1 rfl ?_
    refine kz_aload_nv (M := kt_M131) (x := x2) kX6_action_c6.2.1 rfl ?_
    refine kz_cv0 (M := kt_M131) (c := 5) (o := 0) (As := [va_rf (x2)]) (rest := []) kX6_action_c6.2.2.1 wl_X6_247 wMv_134 rfl (.inl rfl) rfl (Nat.le_trans (Nat.le_of_ble_eq_true rfl) hL) (by simp [lg_sl, w_cat, z_ci, z_cr, z_cl, z_cn, kt_M134]) (Nat.le_of_ble_eq_true rfl) h (fun w1 hle h => ?_) (fun _ _ _ h => kzx_no rfl h)
    have h := h hle
    refine kz_aload_nv (M := kt_M131) (x := x2) kX6_action_c6.2.2.2.1 rfl ?_
    obtain ⟨p3, hxp3, hlp3, h⟩ := h
    refine kz_nz0 (x := x2) hxp3 ?_
    refine kz_gfp (M := kt_M131) (c := 14) (o := p3) kX6_action_c6.2.2.2.2.1 wf_X6_89 (.inr (by exact hlp3)) ?_
    refine kz_stv_n (M := kt_M131) (x := w_p w1 14 p3 7) [(0, .ref (w_adr E.2.1 5 0))] kX6_action_c6.2.2.2.2.2.1 (Nat.le_of_ble_eq_true rfl) ⟨⟨rfl, rfl, .inl rfl⟩, trivial⟩ rfl ?_
    refine kz_goto (M := kt_M131) kX6_action_c6.2.2.2.2.2.2.1 (t := 164) rfl ?_
    exact kz_weak [(0, .ref (w_adr E.2.1 5 0)), (2, va_rf (w_p w1 14 p3 7))] ⟨rfl, ⟨rfl, trivial⟩⟩ rfl h
def zb_X6_action_p126 (E : zE) (L : Nat) (Q : kx_Rs → wS → Prop) (y0 : Int32) (y1 : Option Nat) (w : wS) : Prop := zw E (L - 25) kt_M144 [.ref (w_adr E.2.1 5 0), va_rf (y1), .int y0] w (wk0 (fun w1 => wle w w1 → zb_X6_action_p208 E L Q w1) (fun e w => Q (.inr e) w))
theorem zt_X6_action_p126 {E : zE} {L : Nat} {Q : kx_Rs → wS → Prop} {y0 : Int32} {y1 : Option Nat} {w : wS} (hL : 25 ≤ L) (h : zb_X6_action_p126 E L Q y0 y1 w) : kzE E L kt_M131 126 [(0, .ref (w_adr E.2.1 5 0))] [.int y0, va_rf (y1), .ref (w_adr E.2.1 5 0)] w Q := by
  unfold zb_X6_action_p126 at h
  refine kz_cv0 (M := kt_M131) (c := 5) (o := 0) (As := [va_rf (y1), .int y0]) (rest := []) kX6_action_c3.2.2.2.2.1 wl_X6_240 wMv_144 rfl (.inl rfl) rfl (Nat.le_trans (Nat.le_of_ble_eq_true rfl) hL) (by simp [lg_sl, w_cat, z_ci, z_cr, z_cl, z_cn, kt_M144]) (Nat.le_of_ble_eq_true rfl) h (fun w1 hle h => ?_) (fun _ _ _ h => kzx_no rfl h)
  have h := h hle
  refine kz_goto (M := kt_M131) kX6_action_c3.2.2.2.2.2.1 (t := 208) rfl ?_
  exact kz_weak [(0, .ref (w_adr E.2.1 5 0))] ⟨rfl, trivial⟩ rfl (zt_X6_action_p208 hL  h)
def zb_X6_action_p0 (E : zE) (L : Nat) (Q : kx_Rs → wS → Prop) (x1 : Option Nat) (w : wS) : Prop := (∃ p1, x1 = some p1 ∧ w_l w E.2.1 14 p1 ∧ (∃ i2, zO E "MeetingHouse$Kind" (w_p w 14 p1 0) i2 ∧ (if (kw_on i2) = 16 then zw E (L - 22) kt_M139 [.ref (w_adr E.2.1 5 0), va_rf (w_p w 14 p1 3)] w (wk0 (fun w3 => wle w w3 → zw E (L - 22) kt_M141 [.ref (w_adr E.2.1 5 0), va_rf (w_p w3 14 p1 4)] w3 (wk0 (fun w5 => wle w3 w5 → zb_X6_action_p208 E L Q w5) (fun e w => Q (.inr e) w))) (fun e w => Q (.inr e) w)) else (if (kw_on i2) = 17 then (if ¬ w_p w 14 p1 0 = some (E.1.1 38) then (if ¬ w_p w 14 p1 0 = some (E.1.1 40) then zb_X6_action_p126 E L Q 3 x1 w else zb_X6_action_p126 E L Q 1 x1 w) else zb_X6_action_p126 E L Q 2 x1 w) else (if (kw_on i2) = 18 then zw E (L - 23) kt_M147 [.ref (w_adr E.2.1 5 0), va_rf (x1)] w (wk0 (fun w7 => wle w w7 → zb_X6_action_p208 E L Q w7) (fun e w => Q (.inr e) w)) else (if (kw_on i2) = 19 then (if ¬ w_p w 14 p1 0 = some (E.1.1 38) then (if ¬ w_p w 14 p1 0 = some (E.1.1 40) then zb_X6_action_p126 E L Q 3 x1 w else zb_X6_action_p126 E L Q 1 x1 w) else zb_X6_action_p126 E L Q 2 x1 w) else (if (kw_on i2) = 20 then (if ¬ w_p w 14 p1 0 = some (E.1.1 38) then (if ¬ w_p w 14 p1 0 = some (E.1.1 40) then zb_X6_action_p126 E L Q 3 x1 w else zb_X6_action_p126 E L Q 1 x1 w) else zb_X6_action_p126 E L Q 2 x1 w) else (if (kw_on i2) = 21 then zw E (L - 24) kt_M143 [.ref (w_adr E.2.1 5 0), .int (w_i w 14 p1 9), .int (w_i w 14 p1 2), va_rf (some (E.1.1 60))] w (wkr (fun v10 w9 => wle w w9 → zL_X6_action_p164 E L Q (w_p w9 14 p1 4) (ws_p w9 14 p1 16 v10)) (fun e w => Q (.inr e) w)) else (if (kw_on i2) = 22 then zw E (L - 23) kt_M151 [.ref (w_adr E.2.1 5 0), va_rf (x1)] w (wk0 (fun w11 => wle w w11 → zb_X6_action_p208 E L Q w11) (fun e w => Q (.inr e) w)) else (if (kw_on i2) = 23 then zw E (L - 23) kt_M151 [.ref (w_adr E.2.1 5 0), va_rf (x1)] w (wk0 (fun w13 => wle w w13 → zb_X6_action_p208 E L Q w13) (fun e w => Q (.inr e) w)) else (if (kw_on i2) = 24 then zw E (L - 22) kt_M135 [.ref (w_adr E.2.1 5 0), va_rf (x1)] w (wk0 (fun w15 => wle w w15 → zb_X6_action_p208 E L Q w15) (fun e w => Q (.inr e) w)) else (if (kw_on i2) = 26 then zw E (L - 22) kt_M135 [.ref (w_adr E.2.1 5 0), va_rf (x1)] w (wk0 (fun w17 => wle w w17 → zb_X6_action_p208 E L Q w17) (fun e w => Q (.inr e) w)) else (if (kw_on i2) = 28 then zw E (L - 22) kt_M135 [.ref (w_adr E.2.1 5 0), va_rf (x1)] w (wk0 (fun w19 => wle w w19 → zb_X6_action_p208 E L Q w19) (fun e w => Q (.inr e) w)) else (if (kw_on i2) = 29 then zw E (L - 23) kt_M133 [.ref (w_adr E.2.1 5 0), va_rf (x1)] w (wk0 (fun w21 => wle w w21 → zb_X6_action_p208 E L Q w21) (fun e w => Q (.inr e) w)) else zb_X6_action_p208 E L Q w))))))))))))))
theorem zt_X6_action_p0 {E : zE} {L : Nat} {Q : kx_Rs → wS → Prop} {x1 : Option Nat} {w : wS} (hL : 25 ≤ L) (h : zb_X6_action_p0 E L Q x1 w) : kzE E L kt_M131 0 [(0, .ref (w_adr E.2.1 5 0)), (1, va_rf (x1))] [] w Q := by
  unfold zb_X6_action_p0 at h
  refine kz_aload_nv (M := kt_M131) (x := x1) kX6_action_c0.1 rfl ?_
  obtain ⟨p1, hxp1, hlp1, h⟩ := h
  refine kz_nz0 (x := x1) hxp1 ?_
  refine kz_gfp (M := kt_M131) (c := 14) (o := p1) kX6_action_c0.2.1 wf_X6_124 (.inr (by exact hlp1)) ?_
  obtain ⟨i2, ho, h⟩ := h
  refine kz_ord (M := kt_M131) (x := w_p w 14 p1 0) (i := i2) (C := "MeetingHouse$Kind") kX6_action_c0.2.2.1 zo_l_X6 zo_m_X6 zo_s_Kind zo_u_X6 (Nat.le_trans (Nat.le_of_ble_eq_true rfl) hL) (Nat.le_of_ble_eq_true rfl) ho ?_
  refine kz_tsw (M := kt_M131) [(16, 76), (17, 95), (18, 132), (19, 95), (20, 95), (21, 140), (22, 184), (23, 184), (24, 192), (26, 192), (28, 192), (29, 200)] [_, _, _, _, _, _, _, _, _, _, _, _] 208 dX6_action_p7 (by decide +kernel) h ⟨fun h => ?_, fun h => ?_, fun h => ?_, fun h => ?_, fun h => ?_, fun h => ?_, fun h => ?_, fun h => ?_, fun h => ?_, fun h => ?_, fun h => ?_, fun h => ?_, trivial⟩ (fun h => ?_)
  · skip
    refine kz_aload_n (M := kt_M131) kX6_action_c0.2.2.2.2.1 rfl ?_
    refine kz_aload_nv (M := kt_M131) (x := x1) kX6_action_c0.2.2.2.2.2.1 rfl ?_
    refine kz_nz0 (x := x1) hxp1 ?_
    refine kz_gfp (M := kt_M131) (c := 14) (o := p1) kX6_action_c0.2.2.2.2.2.2.1 wf_X6_93 (.inr (by exact hlp1)) ?_
    refine kz_cv0 (M := kt_M131) (c := 5) (o := 0) (As := [va_rf (w_p w 14 p1 3)]) (rest := []) kX6_action_c0.2.2.2.2.2.2.2.1 wl_X6_228 wMv_139 rfl (.inl rfl) rfl (Nat.le_trans (Nat.le_of_ble_eq_true rfl) hL) (by simp [lg_sl, w_cat, z_ci, z_cr, z_cl, z_cn, kt_M139]) (Nat.le_of_ble_eq_true rfl) h (fun w3 hle h => ?_) (fun _ _ _ h => kzx_no rfl h)
    have h := h hle
    have hlp1 := w_l_le hlp1 hle
    refine kz_aload_n (M := kt_M131) kX6_action_c1.1 rfl ?_
    refine kz_aload_nv (M := kt_M131) (x := x1) kX6_action_c1.2.1 rfl ?_
    refine kz_nz0 (x := x1) hxp1 ?_
    refine kz_gfp (M := kt_M131) (c := 14) (o := p1) kX6_action_c1.2.2.1 wf_X6_99 (.inr (by exact hlp1)) ?_
    refine kz_cv0 (M := kt_M131) (c := 5) (o := 0) (As := [va_rf (w_p w3 14 p1 4)]) (rest := []) kX6_action_c1.2.2.2.1 wl_X6_231 wMv_141 rfl (.inl rfl) rfl (Nat.le_trans (Nat.le_of_ble_eq_true rfl) hL) (by simp [lg_sl, w_cat, z_ci, z_cr, z_cl, z_cn, kt_M141]) (Nat.le_of_ble_eq_true rfl) h (fun w5 hle h => ?_) (fun _ _ _ h => kzx_no rfl h)
    have h := h hle
    have hlp1 := w_l_le hlp1 hle
    refine kz_goto (M := kt_M131) kX6_action_c1.2.2.2.2.1 (t := 208) rfl ?_
    exact kz_weak [(0, .ref (w_adr E.2.1 5 0))] ⟨rfl, trivial⟩ rfl (zt_X6_action_p208 hL  h)
  · skip
    refine kz_aload_n (M := kt_M131) kX6_action_c1.2.2.2.2.2.1 rfl ?_
    refine kz_aload_nv (M := kt_M131) (x := x1) kX6_action_c1.2.2.2.2.2.2.1 rfl ?_
    refine kz_aload_nv (M := kt_M131) (x := x1) kX6_action_c1.2.2.2.2.2.2.2.1 rfl ?_
    refine kz_nz0 (x := x1) hxp1 ?_
    refine kz_gfp (M := kt_M131) (c := 14) (o := p1) kX6_action_c2.1 wf_X6_124 (.inr (by exact hlp1)) ?_
    refine kz_getsE (M := kt_M131) (v := va_rf (some (E.1.1 38))) kX6_action_c2.2.1 zs_X6_234 ?_
    refine kz_acmp_ne (M := kt_M131) (x := w_p w 14 p1 0) (y := some (E.1.1 38)) kX6_action_c2.2.2.1 (t := 111) rfl h (fun h => ?_) (fun h => ?_)
    · skip
      refine kz_aload_nv (M := kt_M131) (x := x1) kX6_action_c2.2.2.2.2.2.1 rfl ?_
      refine kz_nz0 (x := x1) hxp1 ?_
      refine kz_gfp (M := kt_M131) (c := 14) (o := p1) kX6_action_c2.2.2.2.2.2.2.1 wf_X6_124 (.inr (by exact hlp1)) ?_
      refine kz_getsE (M := kt_M131) (v := va_rf (some (E.1.1 40))) kX6_action_c2.2.2.2.2.2.2.2.1 zs_X6_237 ?_
      refine kz_acmp_ne (M := kt_M131) (x := w_p w 14 p1 0) (y := some (E.1.1 40)) kX6_action_c3.1 (t := 125) rfl h (fun h => ?_) (fun h => ?_)
      · skip
        refine kz_ic (M := kt_M131) 3 kX6_action_c3.2.2.2.1 rfl ?_
        exact kz_weak [(0, .ref (w_adr E.2.1 5 0))] ⟨rfl, trivial⟩ rfl (zt_X6_action_p126 hL  h)
      · skip
        refine kz_ic (M := kt_M131) 1 kX6_action_c3.2.1 rfl ?_
        refine kz_goto (M := kt_M131) kX6_action_c3.2.2.1 (t := 126) rfl ?_
        exact kz_weak [(0, .ref (w_adr E.2.1 5 0))] ⟨rfl, trivial⟩ rfl (zt_X6_action_p126 hL  h)
    · skip
      refine kz_ic (M := kt_M131) 2 kX6_action_c2.2.2.2.1 rfl ?_
      refine kz_goto (M := kt_M131) kX6_action_c2.2.2.2.2.1 (t := 126) rfl ?_
      exact kz_weak [(0, .ref (w_adr E.2.1 5 0))] ⟨rfl, trivial⟩ rfl (zt_X6_action_p126 hL  h)
  · skip
    refine kz_aload_n (M := kt_M131) kX6_action_c3.2.2.2.2.2.2.1 rfl ?_
    refine kz_aload_nv (M := kt_M131) (x := x1) kX6_action_c3.2.2.2.2.2.2.2.1 rfl ?_
    refine kz_cv0 (M := kt_M131) (c := 5) (o := 0) (As := [va_rf (x1)]) (rest := []) kX6_action_c4.1 wl_X6_244 wMv_147 rfl (.inl rfl) rfl (Nat.le_trans (Nat.le_of_ble_eq_true rfl) hL) (by simp [lg_sl, w_cat, z_ci, z_cr, z_cl, z_cn, kt_M147]) (Nat.le_of_ble_eq_true rfl) h (fun w7 hle h => ?_) (fun _ _ _ h => kzx_no rfl h)
    have h := h hle
    have hlp1 := w_l_le hlp1 hle
    refine kz_goto (M := kt_M131) kX6_action_c4.2.1 (t := 208) rfl ?_
    exact kz_weak [(0, .ref (w_adr E.2.1 5 0))] ⟨rfl, trivial⟩ rfl (zt_X6_action_p208 hL  h)
  · skip
    refine kz_aload_n (M := kt_M131) kX6_action_c1.2.2.2.2.2.1 rfl ?_
    refine kz_aload_nv (M := kt_M131) (x := x1) kX6_action_c1.2.2.2.2.2.2.1 rfl ?_
    refine kz_aload_nv (M := kt_M131) (x := x1) kX6_action_c1.2.2.2.2.2.2.2.1 rfl ?_
    refine kz_nz0 (x := x1) hxp1 ?_
    refine kz_gfp (M := kt_M131) (c := 14) (o := p1) kX6_action_c2.1 wf_X6_124 (.inr (by exact hlp1)) ?_
    refine kz_getsE (M := kt_M131) (v := va_rf (some (E.1.1 38))) kX6_action_c2.2.1 zs_X6_234 ?_
    refine kz_acmp_ne (M := kt_M131) (x := w_p w 14 p1 0) (y := some (E.1.1 38)) kX6_action_c2.2.2.1 (t := 111) rfl h (fun h => ?_) (fun h => ?_)
    · skip
      refine kz_aload_nv (M := kt_M131) (x := x1) kX6_action_c2.2.2.2.2.2.1 rfl ?_
      refine kz_nz0 (x := x1) hxp1 ?_
      refine kz_gfp (M := kt_M131) (c := 14) (o := p1) kX6_action_c2.2.2.2.2.2.2.1 wf_X6_124 (.inr (by exact hlp1)) ?_
      refine kz_getsE (M := kt_M131) (v := va_rf (some (E.1.1 40))) kX6_action_c2.2.2.2.2.2.2.2.1 zs_X6_237 ?_
      refine kz_acmp_ne (M := kt_M131) (x := w_p w 14 p1 0) (y := some (E.1.1 40)) kX6_action_c3.1 (t := 125) rfl h (fun h => ?_) (fun h => ?_)
      · skip
        refine kz_ic (M := kt_M131) 3 kX6_action_c3.2.2.2.1 rfl ?_
        exact kz_weak [(0, .ref (w_adr E.2.1 5 0))] ⟨rfl, trivial⟩ rfl (zt_X6_action_p126 hL  h)
      · skip
        refine kz_ic (M := kt_M131) 1 kX6_action_c3.2.1 rfl ?_
        refine kz_goto (M := kt_M131) kX6_action_c3.2.2.1 (t := 126) rfl ?_
        exact kz_weak [(0, .ref (w_adr E.2.1 5 0))] ⟨rfl, trivial⟩ rfl (zt_X6_action_p126 hL  h)
    · skip
      refine kz_ic (M := kt_M131) 2 kX6_action_c2.2.2.2.1 rfl ?_
      refine kz_goto (M := kt_M131) kX6_action_c2.2.2.2.2.1 (t := 126) rfl ?_
      exact kz_weak [(0, .ref (w_adr E.2.1 5 0))] ⟨rfl, trivial⟩ rfl (zt_X6_action_p126 hL  h)
  · skip
    refine kz_aload_n (M := kt_M131) kX6_action_c1.2.2.2.2.2.1 rfl ?_
    refine kz_aload_nv (M := kt_M131) (x := x1) kX6_action_c1.2.2.2.2.2.2.1 rfl ?_
    refine kz_aload_nv (M := kt_M131) (x := x1) kX6_action_c1.2.2.2.2.2.2.2.1 rfl ?_
    refine kz_nz0 (x := x1) hxp1 ?_
    refine kz_gfp (M := kt_M131) (c := 14) (o := p1) kX6_action_c2.1 wf_X6_124 (.inr (by exact hlp1)) ?_
    refine kz_getsE (M := kt_M131) (v := va_rf (some (E.1.1 38))) kX6_action_c2.2.1 zs_X6_234 ?_
    refine kz_acmp_ne (M := kt_M131) (x := w_p w 14 p1 0) (y := some (E.1.1 38)) kX6_action_c2.2.2.1 (t := 111) rfl h (fun h => ?_) (fun h => ?_)
    · skip
      refine kz_aload_nv (M := kt_M131) (x := x1) kX6_action_c2.2.2.2.2.2.1 rfl ?_
      refine kz_nz0 (x := x1) hxp1 ?_
      refine kz_gfp (M := kt_M131) (c := 14) (o := p1) kX6_action_c2.2.2.2.2.2.2.1 wf_X6_124 (.inr (by exact hlp1)) ?_
      refine kz_getsE (M := kt_M131) (v := va_rf (some (E.1.1 40))) kX6_action_c2.2.2.2.2.2.2.2.1 zs_X6_237 ?_
      refine kz_acmp_ne (M := kt_M131) (x := w_p w 14 p1 0) (y := some (E.1.1 40)) kX6_action_c3.1 (t := 125) rfl h (fun h => ?_) (fun h => ?_)
      · skip
        refine kz_ic (M := kt_M131) 3 kX6_action_c3.2.2.2.1 rfl ?_
        exact kz_weak [(0, .ref (w_adr E.2.1 5 0))] ⟨rfl, trivial⟩ rfl (zt_X6_action_p126 hL  h)
      · skip
        refine kz_ic (M := kt_M131) 1 kX6_action_c3.2.1 rfl ?_
        refine kz_goto (M := kt_M131) kX6_action_c3.2.2.1 (t := 126) rfl ?_
        exact kz_weak [(0, .ref (w_adr E.2.1 5 0))] ⟨rfl, trivial⟩ rfl (zt_X6_action_p126 hL  h)
    · skip
      refine kz_ic (M := kt_M131) 2 kX6_action_c2.2.2.2.1 rfl ?_
      refine kz_goto (M := kt_M131) kX6_action_c2.2.2.2.2.1 (t := 126) rfl ?_
      exact kz_weak [(0, .ref (w_adr E.2.1 5 0))] ⟨rfl, trivial⟩ rfl (zt_X6_action_p126 hL  h)
  · skip
    refine kz_aload_nv (M := kt_M131) (x := x1) kX6_action_c4.2.2.1 rfl ?_
    refine kz_aload_n (M := kt_M131) kX6_action_c4.2.2.2.1 rfl ?_
    refine kz_aload_nv (M := kt_M131) (x := x1) kX6_action_c4.2.2.2.2.1 rfl ?_
    refine kz_nz0 (x := x1) hxp1 ?_
    refine kz_gfi (M := kt_M131) (c := 14) (o := p1) kX6_action_c4.2.2.2.2.2.1 wf_X6_83 (.inr (by exact hlp1)) ?_
    refine kz_aload_nv (M := kt_M131) (x := x1) kX6_action_c4.2.2.2.2.2.2.1 rfl ?_
    refine kz_nz0 (x := x1) hxp1 ?_
    refine kz_gfi (M := kt_M131) (c := 14) (o := p1) kX6_action_c4.2.2.2.2.2.2.2.1 wf_X6_86 (.inr (by exact hlp1)) ?_
    refine kz_getsE (M := kt_M131) (v := va_rf (some (E.1.1 60))) kX6_action_c5.1 zs_X6_223 ?_
    refine kz_cvr (M := kt_M131) (c := 5) (o := 0) (As := [.int (w_i w 14 p1 9), .int (w_i w 14 p1 2), va_rf (some (E.1.1 60))]) (rest := [va_rf (x1)]) kX6_action_c5.2.1 wl_X6_118 wMv_143 rfl (.inl rfl) rfl (Nat.le_trans (Nat.le_of_ble_eq_true rfl) hL) (by simp [lg_sl, w_cat, z_ci, z_cr, z_cl, z_cn, kt_M143]) (by simp [kx_cat, w_cat, z_ci, z_cr, z_cl, z_cn]) h (fun v10 w9 hle h => ?_) (fun _ _ _ h => kzx_no rfl h)
    have h := h hle
    have hlp1 := w_l_le hlp1 hle
    refine kz_nz1 (x := x1) hxp1 ?_
    refine kz_pfp (M := kt_M131) (n := v10) (c := 14) (o := p1) kX6_action_c5.2.2.1 wq_X6_146 (.inr (by exact hlp1)) ?_
    refine kz_aload_nv (M := kt_M131) (x := x1) kX6_action_c5.2.2.2.1 rfl ?_
    refine kz_nz0 (x := x1) hxp1 ?_
    refine kz_gfpR (M := kt_M131) (c := 14) (o := p1) (w_p w9 14 p1 4) kX6_action_c5.2.2.2.2.1 wf_X6_99 (.inr (by exact hlp1)) (rd_p_p rfl) ?_
    refine kz_stv_n (M := kt_M131) (x := w_p w9 14 p1 4) [(0, .ref (w_adr E.2.1 5 0))] kX6_action_c5.2.2.2.2.2.1 (Nat.le_of_ble_eq_true rfl) ⟨⟨rfl, rfl, .inl rfl⟩, trivial⟩ rfl ?_
    exact kz_weak [(0, .ref (w_adr E.2.1 5 0)), (2, va_rf (w_p w9 14 p1 4))] ⟨rfl, ⟨rfl, trivial⟩⟩ rfl h
  · skip
    refine kz_aload_n (M := kt_M131) kX6_action_c7.1 rfl ?_
    refine kz_aload_nv (M := kt_M131) (x := x1) kX6_action_c7.2.1 rfl ?_
    refine kz_cv0 (M := kt_M131) (c := 5) (o := 0) (As := [va_rf (x1)]) (rest := []) kX6_action_c7.2.2.1 wl_X6_250 wMv_151 rfl (.inl rfl) rfl (Nat.le_trans (Nat.le_of_ble_eq_true rfl) hL) (by simp [lg_sl, w_cat, z_ci, z_cr, z_cl, z_cn, kt_M151]) (Nat.le_of_ble_eq_true rfl) h (fun w11 hle h => ?_) (fun _ _ _ h => kzx_no rfl h)
    have h := h hle
    have hlp1 := w_l_le hlp1 hle
    refine kz_goto (M := kt_M131) kX6_action_c7.2.2.2.1 (t := 208) rfl ?_
    exact kz_weak [(0, .ref (w_adr E.2.1 5 0))] ⟨rfl, trivial⟩ rfl (zt_X6_action_p208 hL  h)
  · skip
    refine kz_aload_n (M := kt_M131) kX6_action_c7.1 rfl ?_
    refine kz_aload_nv (M := kt_M131) (x := x1) kX6_action_c7.2.1 rfl ?_
    refine kz_cv0 (M := kt_M131) (c := 5) (o := 0) (As := [va_rf (x1)]) (rest := []) kX6_action_c7.2.2.1 wl_X6_250 wMv_151 rfl (.inl rfl) rfl (Nat.le_trans (Nat.le_of_ble_eq_true rfl) hL) (by simp [lg_sl, w_cat, z_ci, z_cr, z_cl, z_cn, kt_M151]) (Nat.le_of_ble_eq_true rfl) h (fun w13 hle h => ?_) (fun _ _ _ h => kzx_no rfl h)
    have h := h hle
    have hlp1 := w_l_le hlp1 hle
    refine kz_goto (M := kt_M131) kX6_action_c7.2.2.2.1 (t := 208) rfl ?_
    exact kz_weak [(0, .ref (w_adr E.2.1 5 0))] ⟨rfl, trivial⟩ rfl (zt_X6_action_p208 hL  h)
  · skip
    refine kz_aload_n (M := kt_M131) kX6_action_c7.2.2.2.2.1 rfl ?_
    refine kz_aload_nv (M := kt_M131) (x := x1) kX6_action_c7.2.2.2.2.2.1 rfl ?_
    refine kz_cv0 (M := kt_M131) (c := 5) (o := 0) (As := [va_rf (x1)]) (rest := []) kX6_action_c7.2.2.2.2.2.2.1 wl_X6_253 wMv_135 rfl (.inl rfl) rfl (Nat.le_trans (Nat.le_of_ble_eq_true rfl) hL) (by simp [lg_sl, w_cat, z_ci, z_cr, z_cl, z_cn, kt_M135]) (Nat.le_of_ble_eq_true rfl) h (fun w15 hle h => ?_) (fun _ _ _ h => kzx_no rfl h)
    have h := h hle
    have hlp1 := w_l_le hlp1 hle
    refine kz_goto (M := kt_M131) kX6_action_c7.2.2.2.2.2.2.2.1 (t := 208) rfl ?_
    exact kz_weak [(0, .ref (w_adr E.2.1 5 0))] ⟨rfl, trivial⟩ rfl (zt_X6_action_p208 hL  h)
  · skip
    refine kz_aload_n (M := kt_M131) kX6_action_c7.2.2.2.2.1 rfl ?_
    refine kz_aload_nv (M := kt_M131) (x := x1) kX6_action_c7.2.2.2.2.2.1 rfl ?_
    refine kz_cv0 (M := kt_M131) (c := 5) (o := 0) (As := [va_rf (x1)]) (rest := []) kX6_action_c7.2.2.2.2.2.2.1 wl_X6_253 wMv_135 rfl (.inl rfl) rfl (Nat.le_trans (Nat.le_of_ble_eq_true rfl) hL) (by simp [lg_sl, w_cat, z_ci, z_cr, z_cl, z_cn, kt_M135]) (Nat.le_of_ble_eq_true rfl) h (fun w17 hle h => ?_) (fun _ _ _ h => kzx_no rfl h)
    have h := h hle
    have hlp1 := w_l_le hlp1 hle
    refine kz_goto (M := kt_M131) kX6_action_c7.2.2.2.2.2.2.2.1 (t := 208) rfl ?_
    exact kz_weak [(0, .ref (w_adr E.2.1 5 0))] ⟨rfl, trivial⟩ rfl (zt_X6_action_p208 hL  h)
  · skip
    refine kz_aload_n (M := kt_M131) kX6_action_c7.2.2.2.2.1 rfl ?_
    refine kz_aload_nv (M := kt_M131) (x := x1) kX6_action_c7.2.2.2.2.2.1 rfl ?_
    refine kz_cv0 (M := kt_M131) (c := 5) (o := 0) (As := [va_rf (x1)]) (rest := []) kX6_action_c7.2.2.2.2.2.2.1 wl_X6_253 wMv_135 rfl (.inl rfl) rfl (Nat.le_trans (Nat.le_of_ble_eq_true rfl) hL) (by simp [lg_sl, w_cat, z_ci, z_cr, z_cl, z_cn, kt_M135]) (Nat.le_of_ble_eq_true rfl) h (fun w19 hle h => ?_) (fun _ _ _ h => kzx_no rfl h)
    have h := h hle
    have hlp1 := w_l_le hlp1 hle
    refine kz_goto (M := kt_M131) kX6_action_c7.2.2.2.2.2.2.2.1 (t := 208) rfl ?_
    exact kz_weak [(0, .ref (w_adr E.2.1 5 0))] ⟨rfl, trivial⟩ rfl (zt_X6_action_p208 hL  h)
  · skip
    refine kz_aload_n (M := kt_M131) kX6_action_c8.1 rfl ?_
    refine kz_aload_nv (M := kt_M131) (x := x1) kX6_action_c8.2.1 rfl ?_
    refine kz_cv0 (M := kt_M131) (c := 5) (o := 0) (As := [va_rf (x1)]) (rest := []) kX6_action_c8.2.2.1 wl_X6_256 wMv_133 rfl (.inl rfl) rfl (Nat.le_trans (Nat.le_of_ble_eq_true rfl) hL) (by simp [lg_sl, w_cat, z_ci, z_cr, z_cl, z_cn, kt_M133]) (Nat.le_of_ble_eq_true rfl) h (fun w21 hle h => ?_) (fun _ _ _ h => kzx_no rfl h)
    have h := h hle
    have hlp1 := w_l_le hlp1 hle
    refine kz_goto (M := kt_M131) kX6_action_c8.2.2.2.1 (t := 208) rfl ?_
    exact kz_weak [(0, .ref (w_adr E.2.1 5 0))] ⟨rfl, trivial⟩ rfl (zt_X6_action_p208 hL  h)
  · skip
    exact kz_weak [(0, .ref (w_adr E.2.1 5 0))] ⟨rfl, trivial⟩ rfl (zt_X6_action_p208 hL  h)
def zL_X6_elements_p2 (E : zE) (L : Nat) (Q : kx_Rs → wS → Prop) (x2 : Option Nat) (w : wS) : Prop := kzE E L kt_M139 2 [(0, .ref (w_adr E.2.1 5 0)), (2, va_rf (x2))] [] w Q
def zb_X6_elements_p2 (E : zE) (L : Nat) (Q : kx_Rs → wS → Prop) (x2 : Option Nat) (w : wS) : Prop := (if x2 = none then Q (.inl none) w else zw E (L - 22) kt_M138 [.ref (w_adr E.2.1 5 0), va_rf (x2), va_rf (some (E.1.1 54))] w (wk0 (fun w1 => wle w w1 → (∃ p3, x2 = some p3 ∧ w_l w1 E.2.1 14 p3 ∧ zL_X6_elements_p2 E L Q (w_p w1 14 p3 7) w1)) (fun e w => Q (.inr e) w)))
theorem zt_X6_elements_p2 {E : zE} {L : Nat} {Q : kx_Rs → wS → Prop} {x2 : Option Nat} {w : wS} (hL : 22 ≤ L) (h : zb_X6_elements_p2 E L Q x2 w) : kzE E L kt_M139 2 [(0, .ref (w_adr E.2.1 5 0)), (2, va_rf (x2))] [] w Q := by
  unfold zb_X6_elements_p2 at h
  refine kz_aload_nv (M := kt_M139) (x := x2) kX6_elements_c0.2.2.1 rfl ?_
  refine kz_ifnull (M := kt_M139) (x := x2) kX6_elements_c0.2.2.2.1 (t := 22) rfl h (fun h => ?_) (fun h => ?_)
  · skip
    exact kz_ret (M := kt_M139) kX6_elements_c1.2.2.2.2.1 rfl h
  · skip
    refine kz_aload_n (M := kt_M139) kX6_elements_c0.2.2.2.2.1 rfl ?_
    refine kz_aload_nv (M := kt_M139) (x := x2) kX6_elements_c0.2.2.2.2.2.1 rfl ?_
    refine kz_getsE (M := kt_M139) (v := va_rf (some (E.1.1 54))) kX6_elements_c0.2.2.2.2.2.2.1 zs_X6_157 ?_
    refine kz_cv0 (M := kt_M139) (c := 5) (o := 0) (As := [va_rf (x2), va_rf (some (E.1.1 54))]) (rest := []) kX6_elements_c0.2.2.2.2.2.2.2.1 wl_X6_160 wMv_138 rfl (.inl rfl) rfl (Nat.le_trans (Nat.le_of_ble_eq_true rfl) hL) (by simp [lg_sl, w_cat, z_ci, z_cr, z_cl, z_cn, kt_M138]) (Nat.le_of_ble_eq_true rfl) h (fun w1 hle h => ?_) (fun _ _ _ h => kzx_no rfl h)
    have h := h hle
    refine kz_aload_nv (M := kt_M139) (x := x2) kX6_elements_c1.1 rfl ?_
    obtain ⟨p3, hxp3, hlp3, h⟩ := h
    refine kz_nz0 (x := x2) hxp3 ?_
    refine kz_gfp (M := kt_M139) (c := 14) (o := p3) kX6_elements_c1.2.1 wf_X6_89 (.inr (by exact hlp3)) ?_
    refine kz_stv_n (M := kt_M139) (x := w_p w1 14 p3 7) [(0, .ref (w_adr E.2.1 5 0))] kX6_elements_c1.2.2.1 (Nat.le_of_ble_eq_true rfl) ⟨⟨rfl, rfl, .inl rfl⟩, trivial⟩ rfl ?_
    refine kz_goto (M := kt_M139) kX6_elements_c1.2.2.2.1 (t := 2) rfl ?_
    exact kz_weak [(0, .ref (w_adr E.2.1 5 0)), (2, va_rf (w_p w1 14 p3 7))] ⟨rfl, ⟨rfl, trivial⟩⟩ rfl h
def zb_X6_elements_p0 (E : zE) (L : Nat) (Q : kx_Rs → wS → Prop) (x1 : Option Nat) (w : wS) : Prop := zL_X6_elements_p2 E L Q x1 w
theorem zt_X6_elements_p0 {E : zE} {L : Nat} {Q : kx_Rs → wS → Prop} {x1 : Option Nat} {w : wS} (hL : 22 ≤ L) (h : zb_X6_elements_p0 E L Q x1 w) : kzE E L kt_M139 0 [(0, .ref (w_adr E.2.1 5 0)), (1, va_rf (x1))] [] w Q := by
  unfold zb_X6_elements_p0 at h
  refine kz_aload_nv (M := kt_M139) (x := x1) kX6_elements_c0.1 rfl ?_
  refine kz_stv_n (M := kt_M139) (x := x1) [(0, .ref (w_adr E.2.1 5 0))] kX6_elements_c0.2.1 (Nat.le_of_ble_eq_true rfl) ⟨⟨rfl, rfl, .inl rfl⟩, trivial⟩ rfl ?_
  exact kz_weak [(0, .ref (w_adr E.2.1 5 0)), (2, va_rf (x1))] ⟨rfl, ⟨rfl, trivial⟩⟩ rfl h
def zb_X6_input_p185 (E : zE) (L : Nat) (Q : kx_Rs → wS → Prop) (w : wS) : Prop := Q (.inl none) w
theorem zt_X6_input_p185 {E : zE} {L : Nat} {Q : kx_Rs → wS → Prop} {w : wS} (hL : 23 ≤ L) (h : zb_X6_input_p185 E L Q  w) : kzE E L kt_M144 185 [(0, .ref (w_adr E.2.1 5 0))] [] w Q := by
  unfold zb_X6_input_p185 at h
  exact kz_ret (M := kt_M144) kX6_input_c11.1 rfl h
def zb_X6_input_p145 (E : zE) (L : Nat) (Q : kx_Rs → wS → Prop) (x1 : Option Nat) (x2 : Int32) (w : wS) : Prop := (if ¬ x2 = 1 then (if ¬ x2 = 2 then (∃ p1, x1 = some p1 ∧ w_l w E.2.1 14 p1 ∧ zw E (L - 22) kt_M156 [.ref (w_adr E.2.1 5 0), va_rf (w_p w 14 p1 4)] w (wk0 (fun w2 => wle w w2 → zb_X6_input_p185 E L Q w2) (fun e w => Q (.inr e) w))) else (∃ p4, x1 = some p4 ∧ w_l w E.2.1 14 p4 ∧ zw E (L - 21) kt_M140 [.ref (w_adr E.2.1 5 0), va_rf (w_p w 14 p4 4)] w (wk0 (fun w5 => wle w w5 → zb_X6_input_p185 E L Q w5) (fun e w => Q (.inr e) w)))) else (∃ p7, x1 = some p7 ∧ w_l w E.2.1 14 p7 ∧ zw E (L - 22) kt_M139 [.ref (w_adr E.2.1 5 0), va_rf (w_p w 14 p7 4)] w (wk0 (fun w8 => wle w w8 → zb_X6_input_p185 E L Q w8) (fun e w => Q (.inr e) w))))
theorem zt_X6_input_p145 {E : zE} {L : Nat} {Q : kx_Rs → wS → Prop} {x1 : Option Nat} {x2 : Int32} {w : wS} (hL : 23 ≤ L) (h : zb_X6_input_p145 E L Q x1 x2 w) : kzE E L kt_M144 145 [(0, .ref (w_adr E.2.1 5 0)), (1, va_rf (x1)), (2, .int x2)] [] w Q := by
  unfold zb_X6_input_p145 at h
  refine kz_iload_n (M := kt_M144) kX6_input_c8.2.2.2.2.1 rfl ?_
  refine kz_ic (M := kt_M144) 1 kX6_input_c8.2.2.2.2.2.1 rfl ?_
  refine kz_icmp_ne (M := kt_M144) kX6_input_c8.2.2.2.2.2.2.1 (t := 161) rfl h (fun h => ?_) (fun h => ?_)
  · skip
    refine kz_iload_n (M := kt_M144) kX6_input_c9.2.2.2.2.1 rfl ?_
    refine kz_ic (M := kt_M144) 2 kX6_input_c9.2.2.2.2.2.1 rfl ?_
    refine kz_icmp_ne (M := kt_M144) kX6_input_c9.2.2.2.2.2.2.1 (t := 177) rfl h (fun h => ?_) (fun h => ?_)
    · skip
      refine kz_aload_n (M := kt_M144) kX6_input_c10.2.2.2.2.1 rfl ?_
      refine kz_aload_nv (M := kt_M144) (x := x1) kX6_input_c10.2.2.2.2.2.1 rfl ?_
      obtain ⟨p1, hxp1, hlp1, h⟩ := h
      refine kz_nz0 (x := x1) hxp1 ?_
      refine kz_gfp (M := kt_M144) (c := 14) (o := p1) kX6_input_c10.2.2.2.2.2.2.1 wf_X6_99 (.inr (by exact hlp1)) ?_
      refine kz_cv0 (M := kt_M144) (c := 5) (o := 0) (As := [va_rf (w_p w 14 p1 4)]) (rest := []) kX6_input_c10.2.2.2.2.2.2.2.1 wl_X6_267 wMv_156 rfl (.inl rfl) rfl (Nat.le_trans (Nat.le_of_ble_eq_true rfl) hL) (by simp [lg_sl, w_cat, z_ci, z_cr, z_cl, z_cn, kt_M156]) (Nat.le_of_ble_eq_true rfl) h (fun w2 hle h => ?_) (fun _ _ _ h => kzx_no rfl h)
      have h := h hle
      have hlp1 := w_l_le hlp1 hle
      exact kz_weak [(0, .ref (w_adr E.2.1 5 0))] ⟨rfl, trivial⟩ rfl (zt_X6_input_p185 hL  h)
    · skip
      refine kz_aload_n (M := kt_M144) kX6_input_c9.2.2.2.2.2.2.2.1 rfl ?_
      refine kz_aload_nv (M := kt_M144) (x := x1) kX6_input_c10.1 rfl ?_
      obtain ⟨p4, hxp4, hlp4, h⟩ := h
      refine kz_nz0 (x := x1) hxp4 ?_
      refine kz_gfp (M := kt_M144) (c := 14) (o := p4) kX6_input_c10.2.1 wf_X6_99 (.inr (by exact hlp4)) ?_
      refine kz_cv0 (M := kt_M144) (c := 5) (o := 0) (As := [va_rf (w_p w 14 p4 4)]) (rest := []) kX6_input_c10.2.2.1 wl_X6_137 wMv_140 rfl (.inl rfl) rfl (Nat.le_trans (Nat.le_of_ble_eq_true rfl) hL) (by simp [lg_sl, w_cat, z_ci, z_cr, z_cl, z_cn, kt_M140]) (Nat.le_of_ble_eq_true rfl) h (fun w5 hle h => ?_) (fun _ _ _ h => kzx_no rfl h)
      have h := h hle
      have hlp4 := w_l_le hlp4 hle
      refine kz_goto (M := kt_M144) kX6_input_c10.2.2.2.1 (t := 185) rfl ?_
      exact kz_weak [(0, .ref (w_adr E.2.1 5 0))] ⟨rfl, trivial⟩ rfl (zt_X6_input_p185 hL  h)
  · skip
    refine kz_aload_n (M := kt_M144) kX6_input_c8.2.2.2.2.2.2.2.1 rfl ?_
    refine kz_aload_nv (M := kt_M144) (x := x1) kX6_input_c9.1 rfl ?_
    obtain ⟨p7, hxp7, hlp7, h⟩ := h
    refine kz_nz0 (x := x1) hxp7 ?_
    refine kz_gfp (M := kt_M144) (c := 14) (o := p7) kX6_input_c9.2.1 wf_X6_99 (.inr (by exact hlp7)) ?_
    refine kz_cv0 (M := kt_M144) (c := 5) (o := 0) (As := [va_rf (w_p w 14 p7 4)]) (rest := []) kX6_input_c9.2.2.1 wl_X6_228 wMv_139 rfl (.inl rfl) rfl (Nat.le_trans (Nat.le_of_ble_eq_true rfl) hL) (by simp [lg_sl, w_cat, z_ci, z_cr, z_cl, z_cn, kt_M139]) (Nat.le_of_ble_eq_true rfl) h (fun w8 hle h => ?_) (fun _ _ _ h => kzx_no rfl h)
    have h := h hle
    have hlp7 := w_l_le hlp7 hle
    refine kz_goto (M := kt_M144) kX6_input_c9.2.2.2.1 (t := 185) rfl ?_
    exact kz_weak [(0, .ref (w_adr E.2.1 5 0))] ⟨rfl, trivial⟩ rfl (zt_X6_input_p185 hL  h)
def zb_X6_input_p121 (E : zE) (L : Nat) (Q : kx_Rs → wS → Prop) (x1 : Option Nat) (x2 : Int32) (w : wS) : Prop := (∃ p1, x1 = some p1 ∧ w_l w E.2.1 14 p1 ∧ (∃ p2, w_p w 14 p1 3 = some p2 ∧ w_l w E.2.1 14 p2 ∧ zw E (L - 22) kt_M56 [.ref (w_adr E.2.1 2 0), .int 6, .int (w_i w 14 p2 2)] w (wk0 (fun w3 => wle w w3 → (∃ p5, w_p w3 14 p1 3 = some p5 ∧ w_l w3 E.2.1 14 p5 ∧ zb_X6_input_p145 E L Q x1 x2 (ws_p w3 14 p5 16 none))) (fun e w => Q (.inr e) w))))
theorem zt_X6_input_p121 {E : zE} {L : Nat} {Q : kx_Rs → wS → Prop} {x1 : Option Nat} {x2 : Int32} {w : wS} (hL : 23 ≤ L) (h : zb_X6_input_p121 E L Q x1 x2 w) : kzE E L kt_M144 121 [(0, .ref (w_adr E.2.1 5 0)), (1, va_rf (x1)), (2, .int x2)] [] w Q := by
  unfold zb_X6_input_p121 at h
  refine kz_aload_n (M := kt_M144) kX6_input_c7.2.1 rfl ?_
  refine kz_gfc (M := kt_M144) (x := 8) (c := 5) (o := 0) kX6_input_c7.2.2.1 wf_X6_15 (.inl rfl) ?_
  refine kz_bi (M := kt_M144) 6 kX6_input_c7.2.2.2.1 rfl ?_
  refine kz_aload_nv (M := kt_M144) (x := x1) kX6_input_c7.2.2.2.2.1 rfl ?_
  obtain ⟨p1, hxp1, hlp1, h⟩ := h
  refine kz_nz0 (x := x1) hxp1 ?_
  refine kz_gfp (M := kt_M144) (c := 14) (o := p1) kX6_input_c7.2.2.2.2.2.1 wf_X6_93 (.inr (by exact hlp1)) ?_
  obtain ⟨p2, hxp2, hlp2, h⟩ := h
  refine kz_nz0 (x := w_p w 14 p1 3) hxp2 ?_
  refine kz_gfi (M := kt_M144) (c := 14) (o := p2) kX6_input_c7.2.2.2.2.2.2.1 wf_X6_86 (.inr (by exact hlp2)) ?_
  refine kz_cv0 (M := kt_M144) (c := 2) (o := 0) (As := [.int 6, .int (w_i w 14 p2 2)]) (rest := []) kX6_input_c7.2.2.2.2.2.2.2.1 wl_X6_70 wMv_56 rfl (.inl rfl) rfl (Nat.le_trans (Nat.le_of_ble_eq_true rfl) hL) (Nat.le_of_ble_eq_true rfl) (Nat.le_of_ble_eq_true rfl) h (fun w3 hle h => ?_) (fun _ _ _ h => kzx_no rfl h)
  have h := h hle
  have hlp1 := w_l_le hlp1 hle
  have hlp2 := w_l_le hlp2 hle
  refine kz_aload_nv (M := kt_M144) (x := x1) kX6_input_c8.1 rfl ?_
  refine kz_nz0 (x := x1) hxp1 ?_
  refine kz_gfp (M := kt_M144) (c := 14) (o := p1) kX6_input_c8.2.1 wf_X6_93 (.inr (by exact hlp1)) ?_
  refine kz_null (M := kt_M144) kX6_input_c8.2.2.1 ?_
  obtain ⟨p5, hxp5, hlp5, h⟩ := h
  refine kz_nz1 (x := w_p w3 14 p1 3) hxp5 ?_
  refine kz_pfp (M := kt_M144) (n := none) (c := 14) (o := p5) kX6_input_c8.2.2.2.1 wq_X6_146 (.inr (by exact hlp5)) ?_
  exact kz_weak [(0, .ref (w_adr E.2.1 5 0)), (1, va_rf (x1)), (2, .int x2)] ⟨rfl, ⟨rfl, ⟨rfl, trivial⟩⟩⟩ rfl (zt_X6_input_p145 hL  h)
def zb_X6_input_p106 (E : zE) (L : Nat) (Q : kx_Rs → wS → Prop) (x1 : Option Nat) (x2 : Int32) (x3 : Option Nat) (x5 : Int32) (w : wS) : Prop := (if x5 = 0 then zb_X6_input_p121 E L Q x1 x2 w else (∃ p1, x3 = some p1 ∧ w_l w E.2.1 15 p1 ∧ (if w_p w 15 p1 0 = some (E.1.1 53) then zb_X6_input_p145 E L Q x1 x2 w else zb_X6_input_p121 E L Q x1 x2 w)))
theorem zt_X6_input_p106 {E : zE} {L : Nat} {Q : kx_Rs → wS → Prop} {x1 : Option Nat} {x2 : Int32} {x3 : Option Nat} {x5 : Int32} {w : wS} (hL : 23 ≤ L) (h : zb_X6_input_p106 E L Q x1 x2 x3 x5 w) : kzE E L kt_M144 106 [(0, .ref (w_adr E.2.1 5 0)), (1, va_rf (x1)), (2, .int x2), (3, va_rf (x3)), (5, .int x5)] [] w Q := by
  unfold zb_X6_input_p106 at h
  refine kz_iload (M := kt_M144) kX6_input_c6.2.2.2.1 rfl ?_
  refine kz_if_eq (M := kt_M144) kX6_input_c6.2.2.2.2.1 (t := 121) rfl h (fun h => ?_) (fun h => ?_)
  · skip
    exact kz_weak [(0, .ref (w_adr E.2.1 5 0)), (1, va_rf (x1)), (2, .int x2)] ⟨rfl, ⟨rfl, ⟨rfl, trivial⟩⟩⟩ rfl (zt_X6_input_p121 hL  h)
  · skip
    refine kz_aload_nv (M := kt_M144) (x := x3) kX6_input_c6.2.2.2.2.2.1 rfl ?_
    obtain ⟨p1, hxp1, hlp1, h⟩ := h
    refine kz_nz0 (x := x3) hxp1 ?_
    refine kz_gfp (M := kt_M144) (c := 15) (o := p1) kX6_input_c6.2.2.2.2.2.2.1 wf_X6_80 (.inr (by exact hlp1)) ?_
    refine kz_getsE (M := kt_M144) (v := va_rf (some (E.1.1 53))) kX6_input_c6.2.2.2.2.2.2.2.1 zs_X6_31 ?_
    refine kz_acmp_eq (M := kt_M144) (x := w_p w 15 p1 0) (y := some (E.1.1 53)) kX6_input_c7.1 (t := 145) rfl h (fun h => ?_) (fun h => ?_)
    · skip
      exact kz_weak [(0, .ref (w_adr E.2.1 5 0)), (1, va_rf (x1)), (2, .int x2)] ⟨rfl, ⟨rfl, ⟨rfl, trivial⟩⟩⟩ rfl (zt_X6_input_p145 hL  h)
    · skip
      exact kz_weak [(0, .ref (w_adr E.2.1 5 0)), (1, va_rf (x1)), (2, .int x2)] ⟨rfl, ⟨rfl, ⟨rfl, trivial⟩⟩⟩ rfl (zt_X6_input_p121 hL  h)
def zb_X6_input_p85 (E : zE) (L : Nat) (Q : kx_Rs → wS → Prop) (x1 : Option Nat) (x2 : Int32) (x3 : Option Nat) (x4 : Int32) (y0 : Int32) (w : wS) : Prop := (if x3 = none then zb_X6_input_p145 E L Q x1 x2 w else (if x4 = 0 then zb_X6_input_p106 E L Q x1 x2 x3 y0 w else (∃ p1, x3 = some p1 ∧ w_l w E.2.1 15 p1 ∧ (if w_p w 15 p1 0 = some (E.1.1 58) then zb_X6_input_p145 E L Q x1 x2 w else zb_X6_input_p106 E L Q x1 x2 x3 y0 w))))
theorem zt_X6_input_p85 {E : zE} {L : Nat} {Q : kx_Rs → wS → Prop} {x1 : Option Nat} {x2 : Int32} {x3 : Option Nat} {x4 : Int32} {y0 : Int32} {w : wS} (hL : 23 ≤ L) (h : zb_X6_input_p85 E L Q x1 x2 x3 x4 y0 w) : kzE E L kt_M144 85 [(0, .ref (w_adr E.2.1 5 0)), (1, va_rf (x1)), (2, .int x2), (3, va_rf (x3)), (4, .int x4)] [.int y0] w Q := by
  unfold zb_X6_input_p85 at h
  refine kz_sti (M := kt_M144) [(0, .ref (w_adr E.2.1 5 0)), (1, va_rf (x1)), (2, .int x2), (3, va_rf (x3)), (4, .int x4)] kX6_input_c5.2.2.1 (Nat.le_of_ble_eq_true rfl) ⟨⟨rfl, rfl, .inl rfl⟩, ⟨⟨rfl, rfl, .inl rfl⟩, ⟨⟨rfl, rfl, .inl rfl⟩, ⟨⟨rfl, rfl, .inl rfl⟩, ⟨⟨rfl, rfl, .inr rfl⟩, trivial⟩⟩⟩⟩⟩ rfl ?_
  refine kz_aload_nv (M := kt_M144) (x := x3) kX6_input_c5.2.2.2.1 rfl ?_
  refine kz_ifnull (M := kt_M144) (x := x3) kX6_input_c5.2.2.2.2.1 (t := 145) rfl h (fun h => ?_) (fun h => ?_)
  · skip
    exact kz_weak [(0, .ref (w_adr E.2.1 5 0)), (1, va_rf (x1)), (2, .int x2)] ⟨rfl, ⟨rfl, ⟨rfl, trivial⟩⟩⟩ rfl (zt_X6_input_p145 hL  h)
  · skip
    refine kz_iload (M := kt_M144) kX6_input_c5.2.2.2.2.2.1 rfl ?_
    refine kz_if_eq (M := kt_M144) kX6_input_c5.2.2.2.2.2.2.1 (t := 106) rfl h (fun h => ?_) (fun h => ?_)
    · skip
      exact kz_weak [(0, .ref (w_adr E.2.1 5 0)), (1, va_rf (x1)), (2, .int x2), (3, va_rf (x3)), (5, .int y0)] ⟨rfl, ⟨rfl, ⟨rfl, ⟨rfl, ⟨rfl, trivial⟩⟩⟩⟩⟩ rfl (zt_X6_input_p106 hL  h)
    · skip
      refine kz_aload_nv (M := kt_M144) (x := x3) kX6_input_c5.2.2.2.2.2.2.2.1 rfl ?_
      obtain ⟨p1, hxp1, hlp1, h⟩ := h
      refine kz_nz0 (x := x3) hxp1 ?_
      refine kz_gfp (M := kt_M144) (c := 15) (o := p1) kX6_input_c6.1 wf_X6_80 (.inr (by exact hlp1)) ?_
      refine kz_getsE (M := kt_M144) (v := va_rf (some (E.1.1 58))) kX6_input_c6.2.1 zs_X6_180 ?_
      refine kz_acmp_eq (M := kt_M144) (x := w_p w 15 p1 0) (y := some (E.1.1 58)) kX6_input_c6.2.2.1 (t := 145) rfl h (fun h => ?_) (fun h => ?_)
      · skip
        exact kz_weak [(0, .ref (w_adr E.2.1 5 0)), (1, va_rf (x1)), (2, .int x2)] ⟨rfl, ⟨rfl, ⟨rfl, trivial⟩⟩⟩ rfl (zt_X6_input_p145 hL  h)
      · skip
        exact kz_weak [(0, .ref (w_adr E.2.1 5 0)), (1, va_rf (x1)), (2, .int x2), (3, va_rf (x3)), (5, .int y0)] ⟨rfl, ⟨rfl, ⟨rfl, ⟨rfl, ⟨rfl, trivial⟩⟩⟩⟩⟩ rfl (zt_X6_input_p106 hL  h)
def zb_X6_input_p73 (E : zE) (L : Nat) (Q : kx_Rs → wS → Prop) (x1 : Option Nat) (x2 : Int32) (x3 : Option Nat) (y0 : Int32) (w : wS) : Prop := (if x2 = 2 then zb_X6_input_p85 E L Q x1 x2 x3 y0 0 w else zb_X6_input_p85 E L Q x1 x2 x3 y0 1 w)
theorem zt_X6_input_p73 {E : zE} {L : Nat} {Q : kx_Rs → wS → Prop} {x1 : Option Nat} {x2 : Int32} {x3 : Option Nat} {y0 : Int32} {w : wS} (hL : 23 ≤ L) (h : zb_X6_input_p73 E L Q x1 x2 x3 y0 w) : kzE E L kt_M144 73 [(0, .ref (w_adr E.2.1 5 0)), (1, va_rf (x1)), (2, .int x2), (3, va_rf (x3))] [.int y0] w Q := by
  unfold zb_X6_input_p73 at h
  refine kz_sti (M := kt_M144) [(0, .ref (w_adr E.2.1 5 0)), (1, va_rf (x1)), (2, .int x2), (3, va_rf (x3))] kX6_input_c4.2.2.2.1 (Nat.le_of_ble_eq_true rfl) ⟨⟨rfl, rfl, .inl rfl⟩, ⟨⟨rfl, rfl, .inl rfl⟩, ⟨⟨rfl, rfl, .inl rfl⟩, ⟨⟨rfl, rfl, .inr (w_cat (x3))⟩, trivial⟩⟩⟩⟩ rfl ?_
  refine kz_iload_n (M := kt_M144) kX6_input_c4.2.2.2.2.1 rfl ?_
  refine kz_ic (M := kt_M144) 2 kX6_input_c4.2.2.2.2.2.1 rfl ?_
  refine kz_icmp_eq (M := kt_M144) kX6_input_c4.2.2.2.2.2.2.1 (t := 84) rfl h (fun h => ?_) (fun h => ?_)
  · skip
    refine kz_ic (M := kt_M144) 0 kX6_input_c5.2.1 rfl ?_
    exact kz_weak [(0, .ref (w_adr E.2.1 5 0)), (1, va_rf (x1)), (2, .int x2), (3, va_rf (x3)), (4, .int y0)] ⟨rfl, ⟨rfl, ⟨rfl, ⟨rfl, ⟨rfl, trivial⟩⟩⟩⟩⟩ rfl (zt_X6_input_p85 hL  h)
  · skip
    refine kz_ic (M := kt_M144) 1 kX6_input_c4.2.2.2.2.2.2.2.1 rfl ?_
    refine kz_goto (M := kt_M144) kX6_input_c5.1 (t := 85) rfl ?_
    exact kz_weak [(0, .ref (w_adr E.2.1 5 0)), (1, va_rf (x1)), (2, .int x2), (3, va_rf (x3)), (4, .int y0)] ⟨rfl, ⟨rfl, ⟨rfl, ⟨rfl, ⟨rfl, trivial⟩⟩⟩⟩⟩ rfl (zt_X6_input_p85 hL  h)
def zb_X6_input_p72 (E : zE) (L : Nat) (Q : kx_Rs → wS → Prop) (x1 : Option Nat) (x2 : Int32) (x3 : Option Nat) (w : wS) : Prop := zb_X6_input_p73 E L Q x1 x2 x3 0 w
theorem zt_X6_input_p72 {E : zE} {L : Nat} {Q : kx_Rs → wS → Prop} {x1 : Option Nat} {x2 : Int32} {x3 : Option Nat} {w : wS} (hL : 23 ≤ L) (h : zb_X6_input_p72 E L Q x1 x2 x3 w) : kzE E L kt_M144 72 [(0, .ref (w_adr E.2.1 5 0)), (1, va_rf (x1)), (2, .int x2), (3, va_rf (x3))] [] w Q := by
  unfold zb_X6_input_p72 at h
  refine kz_ic (M := kt_M144) 0 kX6_input_c4.2.2.1 rfl ?_
  exact kz_weak [(0, .ref (w_adr E.2.1 5 0)), (1, va_rf (x1)), (2, .int x2), (3, va_rf (x3))] ⟨rfl, ⟨rfl, ⟨rfl, ⟨rfl, trivial⟩⟩⟩⟩ rfl (zt_X6_input_p73 hL  h)
def zb_X6_input_p68 (E : zE) (L : Nat) (Q : kx_Rs → wS → Prop) (x1 : Option Nat) (x2 : Int32) (x3 : Option Nat) (w : wS) : Prop := zb_X6_input_p73 E L Q x1 x2 x3 1 w
theorem zt_X6_input_p68 {E : zE} {L : Nat} {Q : kx_Rs → wS → Prop} {x1 : Option Nat} {x2 : Int32} {x3 : Option Nat} {w : wS} (hL : 23 ≤ L) (h : zb_X6_input_p68 E L Q x1 x2 x3 w) : kzE E L kt_M144 68 [(0, .ref (w_adr E.2.1 5 0)), (1, va_rf (x1)), (2, .int x2), (3, va_rf (x3))] [] w Q := by
  unfold zb_X6_input_p68 at h
  refine kz_ic (M := kt_M144) 1 kX6_input_c4.1 rfl ?_
  refine kz_goto (M := kt_M144) kX6_input_c4.2.1 (t := 73) rfl ?_
  exact kz_weak [(0, .ref (w_adr E.2.1 5 0)), (1, va_rf (x1)), (2, .int x2), (3, va_rf (x3))] ⟨rfl, ⟨rfl, ⟨rfl, ⟨rfl, trivial⟩⟩⟩⟩ rfl (zt_X6_input_p73 hL  h)
def zb_X6_input_p48 (E : zE) (L : Nat) (Q : kx_Rs → wS → Prop) (x1 : Option Nat) (x2 : Int32) (x3 : Option Nat) (w : wS) : Prop := (if x2 = 2 then zb_X6_input_p68 E L Q x1 x2 x3 w else (if ¬ x2 = 1 then zb_X6_input_p72 E L Q x1 x2 x3 w else (∃ p1, x1 = some p1 ∧ w_l w E.2.1 14 p1 ∧ (∃ p2, w_p w 14 p1 4 = some p2 ∧ w_l w E.2.1 14 p2 ∧ (if ¬ (w_p w 14 p2 7) = none then zb_X6_input_p72 E L Q x1 x2 x3 w else zb_X6_input_p68 E L Q x1 x2 x3 w)))))
theorem zt_X6_input_p48 {E : zE} {L : Nat} {Q : kx_Rs → wS → Prop} {x1 : Option Nat} {x2 : Int32} {x3 : Option Nat} {w : wS} (hL : 23 ≤ L) (h : zb_X6_input_p48 E L Q x1 x2 x3 w) : kzE E L kt_M144 48 [(0, .ref (w_adr E.2.1 5 0)), (1, va_rf (x1)), (2, .int x2), (3, va_rf (x3))] [] w Q := by
  unfold zb_X6_input_p48 at h
  refine kz_iload_n (M := kt_M144) kX6_input_c2.2.2.2.2.2.2.1 rfl ?_
  refine kz_ic (M := kt_M144) 2 kX6_input_c2.2.2.2.2.2.2.2.1 rfl ?_
  refine kz_icmp_eq (M := kt_M144) kX6_input_c3.1 (t := 68) rfl h (fun h => ?_) (fun h => ?_)
  · skip
    exact kz_weak [(0, .ref (w_adr E.2.1 5 0)), (1, va_rf (x1)), (2, .int x2), (3, va_rf (x3))] ⟨rfl, ⟨rfl, ⟨rfl, ⟨rfl, trivial⟩⟩⟩⟩ rfl (zt_X6_input_p68 hL  h)
  · skip
    refine kz_iload_n (M := kt_M144) kX6_input_c3.2.1 rfl ?_
    refine kz_ic (M := kt_M144) 1 kX6_input_c3.2.2.1 rfl ?_
    refine kz_icmp_ne (M := kt_M144) kX6_input_c3.2.2.2.1 (t := 72) rfl h (fun h => ?_) (fun h => ?_)
    · skip
      exact kz_weak [(0, .ref (w_adr E.2.1 5 0)), (1, va_rf (x1)), (2, .int x2), (3, va_rf (x3))] ⟨rfl, ⟨rfl, ⟨rfl, ⟨rfl, trivial⟩⟩⟩⟩ rfl (zt_X6_input_p72 hL  h)
    · skip
      refine kz_aload_nv (M := kt_M144) (x := x1) kX6_input_c3.2.2.2.2.1 rfl ?_
      obtain ⟨p1, hxp1, hlp1, h⟩ := h
      refine kz_nz0 (x := x1) hxp1 ?_
      refine kz_gfp (M := kt_M144) (c := 14) (o := p1) kX6_input_c3.2.2.2.2.2.1 wf_X6_99 (.inr (by exact hlp1)) ?_
      obtain ⟨p2, hxp2, hlp2, h⟩ := h
      refine kz_nz0 (x := w_p w 14 p1 4) hxp2 ?_
      refine kz_gfp (M := kt_M144) (c := 14) (o := p2) kX6_input_c3.2.2.2.2.2.2.1 wf_X6_89 (.inr (by exact hlp2)) ?_
      refine kz_ifnonnull (M := kt_M144) (x := w_p w 14 p2 7) kX6_input_c3.2.2.2.2.2.2.2.1 (t := 72) rfl h (fun h => ?_) (fun h => ?_)
      · skip
        exact kz_weak [(0, .ref (w_adr E.2.1 5 0)), (1, va_rf (x1)), (2, .int x2), (3, va_rf (x3))] ⟨rfl, ⟨rfl, ⟨rfl, ⟨rfl, trivial⟩⟩⟩⟩ rfl (zt_X6_input_p72 hL  h)
      · skip
        exact kz_weak [(0, .ref (w_adr E.2.1 5 0)), (1, va_rf (x1)), (2, .int x2), (3, va_rf (x3))] ⟨rfl, ⟨rfl, ⟨rfl, ⟨rfl, trivial⟩⟩⟩⟩ rfl (zt_X6_input_p68 hL  h)
def zb_X6_input_p0 (E : zE) (L : Nat) (Q : kx_Rs → wS → Prop) (x1 : Option Nat) (x2 : Int32) (w : wS) : Prop := (∃ p1, x1 = some p1 ∧ w_l w E.2.1 14 p1 ∧ (∃ p2, w_p w 14 p1 3 = some p2 ∧ w_l w E.2.1 14 p2 ∧ zw E (L - 23) kt_M142 [.ref (w_adr E.2.1 5 0), .int (w_i w 14 p2 9), .int (w_i w 14 p2 2)] w (wkr (fun v4 w3 => wle w w3 → (∃ p5, w_p w3 14 p1 3 = some p5 ∧ w_l (ws_p w3 14 p2 16 v4) E.2.1 14 p5 ∧ (if (w_p w3 14 p5 3) = none then zb_X6_input_p48 E L Q x1 x2 v4 (ws_p w3 14 p2 16 v4) else zw E (L - 21) kt_M140 [.ref (w_adr E.2.1 5 0), va_rf (w_p w3 14 p5 3)] (ws_p w3 14 p2 16 v4) (wk0 (fun w6 => wle (ws_p w3 14 p2 16 v4) w6 → zb_X6_input_p48 E L Q x1 x2 v4 w6) (fun e w => Q (.inr e) w))))) (fun e w => Q (.inr e) w))))
theorem zt_X6_input_p0 {E : zE} {L : Nat} {Q : kx_Rs → wS → Prop} {x1 : Option Nat} {x2 : Int32} {w : wS} (hL : 23 ≤ L) (h : zb_X6_input_p0 E L Q x1 x2 w) : kzE E L kt_M144 0 [(0, .ref (w_adr E.2.1 5 0)), (1, va_rf (x1)), (2, .int x2)] [] w Q := by
  unfold zb_X6_input_p0 at h
  refine kz_aload_nv (M := kt_M144) (x := x1) kX6_input_c0.1 rfl ?_
  obtain ⟨p1, hxp1, hlp1, h⟩ := h
  refine kz_nz0 (x := x1) hxp1 ?_
  refine kz_gfp (M := kt_M144) (c := 14) (o := p1) kX6_input_c0.2.1 wf_X6_93 (.inr (by exact hlp1)) ?_
  refine kz_aload_n (M := kt_M144) kX6_input_c0.2.2.1 rfl ?_
  refine kz_aload_nv (M := kt_M144) (x := x1) kX6_input_c0.2.2.2.1 rfl ?_
  refine kz_nz0 (x := x1) hxp1 ?_
  refine kz_gfp (M := kt_M144) (c := 14) (o := p1) kX6_input_c0.2.2.2.2.1 wf_X6_93 (.inr (by exact hlp1)) ?_
  obtain ⟨p2, hxp2, hlp2, h⟩ := h
  refine kz_nz0 (x := w_p w 14 p1 3) hxp2 ?_
  refine kz_gfi (M := kt_M144) (c := 14) (o := p2) kX6_input_c0.2.2.2.2.2.1 wf_X6_83 (.inr (by exact hlp2)) ?_
  refine kz_aload_nv (M := kt_M144) (x := x1) kX6_input_c0.2.2.2.2.2.2.1 rfl ?_
  refine kz_nz0 (x := x1) hxp1 ?_
  refine kz_gfp (M := kt_M144) (c := 14) (o := p1) kX6_input_c0.2.2.2.2.2.2.2.1 wf_X6_93 (.inr (by exact hlp1)) ?_
  refine kz_nz0 (x := w_p w 14 p1 3) hxp2 ?_
  refine kz_gfi (M := kt_M144) (c := 14) (o := p2) kX6_input_c1.1 wf_X6_86 (.inr (by exact hlp2)) ?_
  refine kz_cvr (M := kt_M144) (c := 5) (o := 0) (As := [.int (w_i w 14 p2 9), .int (w_i w 14 p2 2)]) (rest := [va_rf (w_p w 14 p1 3)]) kX6_input_c1.2.1 wl_X6_76 wMv_142 rfl (.inl rfl) rfl (Nat.le_trans (Nat.le_of_ble_eq_true rfl) hL) (Nat.le_of_ble_eq_true rfl) (by simp [kx_cat, w_cat, z_ci, z_cr, z_cl, z_cn]) h (fun v4 w3 hle h => ?_) (fun _ _ _ h => kzx_no rfl h)
  have h := h hle
  have hlp1 := w_l_le hlp1 hle
  have hlp2 := w_l_le hlp2 hle
  refine kz_dup_x1 (M := kt_M144) kX6_input_c1.2.2.1 ⟨w_cat _, w_cat _⟩ ?_
  refine kz_nz1 (x := w_p w 14 p1 3) hxp2 ?_
  refine kz_pfp (M := kt_M144) (n := v4) (c := 14) (o := p2) kX6_input_c1.2.2.2.1 wq_X6_146 (.inr (by exact hlp2)) ?_
  refine kz_stv_n (M := kt_M144) (x := v4) [(0, .ref (w_adr E.2.1 5 0)), (1, va_rf (x1)), (2, .int x2)] kX6_input_c1.2.2.2.2.1 (Nat.le_of_ble_eq_true rfl) ⟨⟨rfl, rfl, .inl rfl⟩, ⟨⟨rfl, rfl, .inl rfl⟩, ⟨⟨rfl, rfl, .inr rfl⟩, trivial⟩⟩⟩ rfl ?_
  refine kz_aload_nv (M := kt_M144) (x := x1) kX6_input_c1.2.2.2.2.2.1 rfl ?_
  refine kz_nz0 (x := x1) hxp1 ?_
  refine kz_gfpR (M := kt_M144) (c := 14) (o := p1) (w_p w3 14 p1 3) kX6_input_c1.2.2.2.2.2.2.1 wf_X6_93 (.inr (by exact hlp1)) (rd_p_p rfl) ?_
  obtain ⟨p5, hxp5, hlp5, h⟩ := h
  refine kz_nz0 (x := w_p w3 14 p1 3) hxp5 ?_
  refine kz_gfpR (M := kt_M144) (c := 14) (o := p5) (w_p w3 14 p5 3) kX6_input_c1.2.2.2.2.2.2.2.1 wf_X6_93 (.inr (by exact hlp5)) (rd_p_p rfl) ?_
  refine kz_ifnull (M := kt_M144) (x := w_p w3 14 p5 3) kX6_input_c2.1 (t := 48) rfl h (fun h => ?_) (fun h => ?_)
  · skip
    exact kz_weak [(0, .ref (w_adr E.2.1 5 0)), (1, va_rf (x1)), (2, .int x2), (3, va_rf (v4))] ⟨rfl, ⟨rfl, ⟨rfl, ⟨rfl, trivial⟩⟩⟩⟩ rfl (zt_X6_input_p48 hL  h)
  · skip
    refine kz_aload_n (M := kt_M144) kX6_input_c2.2.1 rfl ?_
    refine kz_aload_nv (M := kt_M144) (x := x1) kX6_input_c2.2.2.1 rfl ?_
    refine kz_nz0 (x := x1) hxp1 ?_
    refine kz_gfpR (M := kt_M144) (c := 14) (o := p1) (w_p w3 14 p1 3) kX6_input_c2.2.2.2.1 wf_X6_93 (.inr (by exact hlp1)) (rd_p_p rfl) ?_
    refine kz_nz0 (x := w_p w3 14 p1 3) hxp5 ?_
    refine kz_gfpR (M := kt_M144) (c := 14) (o := p5) (w_p w3 14 p5 3) kX6_input_c2.2.2.2.2.1 wf_X6_93 (.inr (by exact hlp5)) (rd_p_p rfl) ?_
    refine kz_cv0 (M := kt_M144) (c := 5) (o := 0) (As := [va_rf (w_p w3 14 p5 3)]) (rest := []) kX6_input_c2.2.2.2.2.2.1 wl_X6_137 wMv_140 rfl (.inl rfl) rfl (Nat.le_trans (Nat.le_of_ble_eq_true rfl) hL) (by simp [lg_sl, w_cat, z_ci, z_cr, z_cl, z_cn, kt_M140]) (Nat.le_of_ble_eq_true rfl) h (fun w6 hle h => ?_) (fun _ _ _ h => kzx_no rfl h)
    have h := h hle
    have hlp1 := w_l_le hlp1 hle
    have hlp2 := w_l_le hlp2 hle
    have hlp5 := w_l_le hlp5 hle
    exact kz_weak [(0, .ref (w_adr E.2.1 5 0)), (1, va_rf (x1)), (2, .int x2), (3, va_rf (v4))] ⟨rfl, ⟨rfl, ⟨rfl, ⟨rfl, trivial⟩⟩⟩⟩ rfl (zt_X6_input_p48 hL  h)
def zL_X6_variants_p2 (E : zE) (L : Nat) (Q : kx_Rs → wS → Prop) (x2 : Option Nat) (w : wS) : Prop := kzE E L kt_M156 2 [(0, .ref (w_adr E.2.1 5 0)), (2, va_rf (x2))] [] w Q
def zb_X6_variants_p2 (E : zE) (L : Nat) (Q : kx_Rs → wS → Prop) (x2 : Option Nat) (w : wS) : Prop := (if x2 = none then Q (.inl none) w else (∃ p1, x2 = some p1 ∧ w_l w E.2.1 14 p1 ∧ zw E (L - 24) kt_M143 [.ref (w_adr E.2.1 5 0), .int (w_i w 14 p1 9), .int (w_i w 14 p1 2), va_rf (some (E.1.1 59))] w (wkr (fun v3 w2 => wle w w2 → zw E (L - 22) kt_M139 [.ref (w_adr E.2.1 5 0), va_rf (w_p w2 14 p1 4)] (ws_p w2 14 p1 16 v3) (wk0 (fun w4 => wle (ws_p w2 14 p1 16 v3) w4 → zw E (L - 23) kt_M149 [.ref (w_adr E.2.1 5 0), va_rf (w_p w4 14 p1 6)] w4 (wk0 (fun w6 => wle w4 w6 → zL_X6_variants_p2 E L Q (w_p w6 14 p1 7) w6) (fun e w => Q (.inr e) w))) (fun e w => Q (.inr e) w))) (fun e w => Q (.inr e) w))))
theorem zt_X6_variants_p2 {E : zE} {L : Nat} {Q : kx_Rs → wS → Prop} {x2 : Option Nat} {w : wS} (hL : 24 ≤ L) (h : zb_X6_variants_p2 E L Q x2 w) : kzE E L kt_M156 2 [(0, .ref (w_adr E.2.1 5 0)), (2, va_rf (x2))] [] w Q := by
  unfold zb_X6_variants_p2 at h
  refine kz_aload_nv (M := kt_M156) (x := x2) kX6_variants_c0.2.2.1 rfl ?_
  refine kz_ifnull (M := kt_M156) (x := x2) kX6_variants_c0.2.2.2.1 (t := 49) rfl h (fun h => ?_) (fun h => ?_)
  · skip
    exact kz_ret (M := kt_M156) kX6_variants_c3.2.1 rfl h
  · skip
    refine kz_aload_nv (M := kt_M156) (x := x2) kX6_variants_c0.2.2.2.2.1 rfl ?_
    refine kz_aload_n (M := kt_M156) kX6_variants_c0.2.2.2.2.2.1 rfl ?_
    refine kz_aload_nv (M := kt_M156) (x := x2) kX6_variants_c0.2.2.2.2.2.2.1 rfl ?_
    obtain ⟨p1, hxp1, hlp1, h⟩ := h
    refine kz_nz0 (x := x2) hxp1 ?_
    refine kz_gfi (M := kt_M156) (c := 14) (o := p1) kX6_variants_c0.2.2.2.2.2.2.2.1 wf_X6_83 (.inr (by exact hlp1)) ?_
    refine kz_aload_nv (M := kt_M156) (x := x2) kX6_variants_c1.1 rfl ?_
    refine kz_nz0 (x := x2) hxp1 ?_
    refine kz_gfi (M := kt_M156) (c := 14) (o := p1) kX6_variants_c1.2.1 wf_X6_86 (.inr (by exact hlp1)) ?_
    refine kz_getsE (M := kt_M156) (v := va_rf (some (E.1.1 59))) kX6_variants_c1.2.2.1 zs_X6_196 ?_
    refine kz_cvr (M := kt_M156) (c := 5) (o := 0) (As := [.int (w_i w 14 p1 9), .int (w_i w 14 p1 2), va_rf (some (E.1.1 59))]) (rest := [va_rf (x2)]) kX6_variants_c1.2.2.2.1 wl_X6_118 wMv_143 rfl (.inl rfl) rfl (Nat.le_trans (Nat.le_of_ble_eq_true rfl) hL) (by simp [lg_sl, w_cat, z_ci, z_cr, z_cl, z_cn, kt_M143]) (by simp [kx_cat, w_cat, z_ci, z_cr, z_cl, z_cn]) h (fun v3 w2 hle h => ?_) (fun _ _ _ h => kzx_no rfl h)
    have h := h hle
    have hlp1 := w_l_le hlp1 hle
    refine kz_nz1 (x := x2) hxp1 ?_
    refine kz_pfp (M := kt_M156) (n := v3) (c := 14) (o := p1) kX6_variants_c1.2.2.2.2.1 wq_X6_146 (.inr (by exact hlp1)) ?_
    refine kz_aload_n (M := kt_M156) kX6_variants_c1.2.2.2.2.2.1 rfl ?_
    refine kz_aload_nv (M := kt_M156) (x := x2) kX6_variants_c1.2.2.2.2.2.2.1 rfl ?_
    refine kz_nz0 (x := x2) hxp1 ?_
    refine kz_gfpR (M := kt_M156) (c := 14) (o := p1) (w_p w2 14 p1 4) kX6_variants_c1.2.2.2.2.2.2.2.1 wf_X6_99 (.inr (by exact hlp1)) (rd_p_p rfl) ?_
    refine kz_cv0 (M := kt_M156) (c := 5) (o := 0) (As := [va_rf (w_p w2 14 p1 4)]) (rest := []) kX6_variants_c2.1 wl_X6_228 wMv_139 rfl (.inl rfl) rfl (Nat.le_trans (Nat.le_of_ble_eq_true rfl) hL) (by simp [lg_sl, w_cat, z_ci, z_cr, z_cl, z_cn, kt_M139]) (Nat.le_of_ble_eq_true rfl) h (fun w4 hle h => ?_) (fun _ _ _ h => kzx_no rfl h)
    have h := h hle
    have hlp1 := w_l_le hlp1 hle
    refine kz_aload_n (M := kt_M156) kX6_variants_c2.2.1 rfl ?_
    refine kz_aload_nv (M := kt_M156) (x := x2) kX6_variants_c2.2.2.1 rfl ?_
    refine kz_nz0 (x := x2) hxp1 ?_
    refine kz_gfp (M := kt_M156) (c := 14) (o := p1) kX6_variants_c2.2.2.2.1 wf_X6_220 (.inr (by exact hlp1)) ?_
    refine kz_cv0 (M := kt_M156) (c := 5) (o := 0) (As := [va_rf (w_p w4 14 p1 6)]) (rest := []) kX6_variants_c2.2.2.2.2.1 wl_X6_54 wMv_149 rfl (.inl rfl) rfl (Nat.le_trans (Nat.le_of_ble_eq_true rfl) hL) (by simp [lg_sl, w_cat, z_ci, z_cr, z_cl, z_cn, kt_M149]) (Nat.le_of_ble_eq_true rfl) h (fun w6 hle h => ?_) (fun _ _ _ h => kzx_no rfl h)
    have h := h hle
    have hlp1 := w_l_le hlp1 hle
    refine kz_aload_nv (M := kt_M156) (x := x2) kX6_variants_c2.2.2.2.2.2.1 rfl ?_
    refine kz_nz0 (x := x2) hxp1 ?_
    refine kz_gfp (M := kt_M156) (c := 14) (o := p1) kX6_variants_c2.2.2.2.2.2.2.1 wf_X6_89 (.inr (by exact hlp1)) ?_
    refine kz_stv_n (M := kt_M156) (x := w_p w6 14 p1 7) [(0, .ref (w_adr E.2.1 5 0))] kX6_variants_c2.2.2.2.2.2.2.2.1 (Nat.le_of_ble_eq_true rfl) ⟨⟨rfl, rfl, .inl rfl⟩, trivial⟩ rfl ?_
    refine kz_goto (M := kt_M156) kX6_variants_c3.1 (t := 2) rfl ?_
    exact kz_weak [(0, .ref (w_adr E.2.1 5 0)), (2, va_rf (w_p w6 14 p1 7))] ⟨rfl, ⟨rfl, trivial⟩⟩ rfl h
def zb_X6_variants_p0 (E : zE) (L : Nat) (Q : kx_Rs → wS → Prop) (x1 : Option Nat) (w : wS) : Prop := zL_X6_variants_p2 E L Q x1 w
theorem zt_X6_variants_p0 {E : zE} {L : Nat} {Q : kx_Rs → wS → Prop} {x1 : Option Nat} {w : wS} (hL : 24 ≤ L) (h : zb_X6_variants_p0 E L Q x1 w) : kzE E L kt_M156 0 [(0, .ref (w_adr E.2.1 5 0)), (1, va_rf (x1))] [] w Q := by
  unfold zb_X6_variants_p0 at h
  refine kz_aload_nv (M := kt_M156) (x := x1) kX6_variants_c0.1 rfl ?_
  refine kz_stv_n (M := kt_M156) (x := x1) [(0, .ref (w_adr E.2.1 5 0))] kX6_variants_c0.2.1 (Nat.le_of_ble_eq_true rfl) ⟨⟨rfl, rfl, .inl rfl⟩, trivial⟩ rfl ?_
  exact kz_weak [(0, .ref (w_adr E.2.1 5 0)), (2, va_rf (x1))] ⟨rfl, ⟨rfl, trivial⟩⟩ rfl h
def zb_X6_output_p93 (E : zE) (L : Nat) (Q : kx_Rs → wS → Prop) (x3 : Option Nat) (w : wS) : Prop := zw E (L - 22) kt_M141 [.ref (w_adr E.2.1 5 0), va_rf (x3)] w (wk0 (fun w1 => wle w w1 → Q (.inl none) w1) (fun e w => Q (.inr e) w))
theorem zt_X6_output_p93 {E : zE} {L : Nat} {Q : kx_Rs → wS → Prop} {x3 : Option Nat} {w : wS} (hL : 24 ≤ L) (h : zb_X6_output_p93 E L Q x3 w) : kzE E L kt_M147 93 [(0, .ref (w_adr E.2.1 5 0)), (3, va_rf (x3))] [] w Q := by
  unfold zb_X6_output_p93 at h
  refine kz_aload_n (M := kt_M147) kX6_output_c5.2.2.2.1 rfl ?_
  refine kz_aload_nv (M := kt_M147) (x := x3) kX6_output_c5.2.2.2.2.1 rfl ?_
  refine kz_cv0 (M := kt_M147) (c := 5) (o := 0) (As := [va_rf (x3)]) (rest := []) kX6_output_c5.2.2.2.2.2.1 wl_X6_231 wMv_141 rfl (.inl rfl) rfl (Nat.le_trans (Nat.le_of_ble_eq_true rfl) hL) (by simp [lg_sl, w_cat, z_ci, z_cr, z_cl, z_cn, kt_M141]) (Nat.le_of_ble_eq_true rfl) h (fun w1 hle h => ?_) (fun _ _ _ h => kzx_no rfl h)
  have h := h hle
  exact kz_ret (M := kt_M147) kX6_output_c5.2.2.2.2.2.2.1 rfl h
def zb_X6_output_p0 (E : zE) (L : Nat) (Q : kx_Rs → wS → Prop) (x1 : Option Nat) (w : wS) : Prop := (∃ p1, x1 = some p1 ∧ w_l w E.2.1 14 p1 ∧ zw E (L - 22) kt_M138 [.ref (w_adr E.2.1 5 0), va_rf (w_p w 14 p1 3), va_rf (some (E.1.1 53))] w (wk0 (fun w2 => wle w w2 → (∃ p4, w_p w2 14 p1 3 = some p4 ∧ w_l w2 E.2.1 14 p4 ∧ (if (w_p w2 14 p4 16) = none then zb_X6_output_p93 E L Q (w_p w2 14 p1 4) w2 else (∃ p5, w_p w2 14 p4 16 = some p5 ∧ w_l w2 E.2.1 15 p5 ∧ (if (w_p w2 15 p5 15) = none then zb_X6_output_p93 E L Q (w_p w2 14 p1 4) w2 else (∃ p6, w_p w2 15 p5 15 = some p6 ∧ w_l w2 E.2.1 15 p6 ∧ (if w_i w2 15 p6 16 = 0 then zb_X6_output_p93 E L Q (w_p w2 14 p1 4) w2 else (∃ p7, w_p w2 14 p1 4 = some p7 ∧ w_l w2 E.2.1 14 p7 ∧ (if ¬ w_p w2 14 p7 0 = some (E.1.1 18) then zb_X6_output_p93 E L Q (w_p w2 14 p1 4) w2 else (if ¬ (w_p w2 14 p7 3) = none then zb_X6_output_p93 E L Q (w_p w2 14 p1 4) w2 else (if ¬ w_i w2 14 p7 12 = 0 then zb_X6_output_p93 E L Q (w_p w2 14 p1 4) w2 else zw E (L - 24) kt_M143 [.ref (w_adr E.2.1 5 0), .int (w_i w2 14 p7 9), .int (w_i w2 14 p7 2), va_rf (some (E.1.1 59))] w2 (wkr (fun v9 w8 => wle w2 w8 → zb_X6_output_p93 E L Q (w_p w8 14 p7 7) (ws_p w8 14 p7 16 v9)) (fun e w => Q (.inr e) w))))))))))))) (fun e w => Q (.inr e) w)))
theorem zt_X6_output_p0 {E : zE} {L : Nat} {Q : kx_Rs → wS → Prop} {x1 : Option Nat} {w : wS} (hL : 24 ≤ L) (h : zb_X6_output_p0 E L Q x1 w) : kzE E L kt_M147 0 [(0, .ref (w_adr E.2.1 5 0)), (1, va_rf (x1))] [] w Q := by
  unfold zb_X6_output_p0 at h
  refine kz_aload_n (M := kt_M147) kX6_output_c0.1 rfl ?_
  refine kz_aload_nv (M := kt_M147) (x := x1) kX6_output_c0.2.1 rfl ?_
  obtain ⟨p1, hxp1, hlp1, h⟩ := h
  refine kz_nz0 (x := x1) hxp1 ?_
  refine kz_gfp (M := kt_M147) (c := 14) (o := p1) kX6_output_c0.2.2.1 wf_X6_93 (.inr (by exact hlp1)) ?_
  refine kz_getsE (M := kt_M147) (v := va_rf (some (E.1.1 53))) kX6_output_c0.2.2.2.1 zs_X6_31 ?_
  refine kz_cv0 (M := kt_M147) (c := 5) (o := 0) (As := [va_rf (w_p w 14 p1 3), va_rf (some (E.1.1 53))]) (rest := []) kX6_output_c0.2.2.2.2.1 wl_X6_160 wMv_138 rfl (.inl rfl) rfl (Nat.le_trans (Nat.le_of_ble_eq_true rfl) hL) (by simp [lg_sl, w_cat, z_ci, z_cr, z_cl, z_cn, kt_M138]) (Nat.le_of_ble_eq_true rfl) h (fun w2 hle h => ?_) (fun _ _ _ h => kzx_no rfl h)
  have h := h hle
  have hlp1 := w_l_le hlp1 hle
  refine kz_aload_nv (M := kt_M147) (x := x1) kX6_output_c0.2.2.2.2.2.1 rfl ?_
  refine kz_nz0 (x := x1) hxp1 ?_
  refine kz_gfp (M := kt_M147) (c := 14) (o := p1) kX6_output_c0.2.2.2.2.2.2.1 wf_X6_93 (.inr (by exact hlp1)) ?_
  obtain ⟨p4, hxp4, hlp4, h⟩ := h
  refine kz_nz0 (x := w_p w2 14 p1 3) hxp4 ?_
  refine kz_gfp (M := kt_M147) (c := 14) (o := p4) kX6_output_c0.2.2.2.2.2.2.2.1 wf_X6_146 (.inr (by exact hlp4)) ?_
  refine kz_stv_n (M := kt_M147) (x := w_p w2 14 p4 16) [(0, .ref (w_adr E.2.1 5 0)), (1, va_rf (x1))] kX6_output_c1.1 (Nat.le_of_ble_eq_true rfl) ⟨⟨rfl, rfl, .inl rfl⟩, ⟨⟨rfl, rfl, .inr (w_cat (x1))⟩, trivial⟩⟩ rfl ?_
  refine kz_aload_nv (M := kt_M147) (x := x1) kX6_output_c1.2.1 rfl ?_
  refine kz_nz0 (x := x1) hxp1 ?_
  refine kz_gfp (M := kt_M147) (c := 14) (o := p1) kX6_output_c1.2.2.1 wf_X6_99 (.inr (by exact hlp1)) ?_
  refine kz_stv_n (M := kt_M147) (x := w_p w2 14 p1 4) [(0, .ref (w_adr E.2.1 5 0)), (2, va_rf (w_p w2 14 p4 16))] kX6_output_c1.2.2.2.1 (Nat.le_of_ble_eq_true rfl) ⟨⟨rfl, rfl, .inl rfl⟩, ⟨⟨rfl, rfl, .inr (w_cat (w_p w2 14 p4 16))⟩, trivial⟩⟩ rfl ?_
  refine kz_aload_nv (M := kt_M147) (x := w_p w2 14 p4 16) kX6_output_c1.2.2.2.2.1 rfl ?_
  refine kz_ifnull (M := kt_M147) (x := w_p w2 14 p4 16) kX6_output_c1.2.2.2.2.2.1 (t := 93) rfl h (fun h => ?_) (fun h => ?_)
  · skip
    exact kz_weak [(0, .ref (w_adr E.2.1 5 0)), (3, va_rf (w_p w2 14 p1 4))] ⟨rfl, ⟨rfl, trivial⟩⟩ rfl (zt_X6_output_p93 hL  h)
  · skip
    refine kz_aload_nv (M := kt_M147) (x := w_p w2 14 p4 16) kX6_output_c1.2.2.2.2.2.2.1 rfl ?_
    obtain ⟨p5, hxp5, hlp5, h⟩ := h
    refine kz_nz0 (x := w_p w2 14 p4 16) hxp5 ?_
    refine kz_gfp (M := kt_M147) (c := 15) (o := p5) kX6_output_c1.2.2.2.2.2.2.2.1 wf_X6_121 (.inr (by exact hlp5)) ?_
    refine kz_ifnull (M := kt_M147) (x := w_p w2 15 p5 15) kX6_output_c2.1 (t := 93) rfl h (fun h => ?_) (fun h => ?_)
    · skip
      exact kz_weak [(0, .ref (w_adr E.2.1 5 0)), (3, va_rf (w_p w2 14 p1 4))] ⟨rfl, ⟨rfl, trivial⟩⟩ rfl (zt_X6_output_p93 hL  h)
    · skip
      refine kz_aload_nv (M := kt_M147) (x := w_p w2 14 p4 16) kX6_output_c2.2.1 rfl ?_
      refine kz_nz0 (x := w_p w2 14 p4 16) hxp5 ?_
      refine kz_gfp (M := kt_M147) (c := 15) (o := p5) kX6_output_c2.2.2.1 wf_X6_121 (.inr (by exact hlp5)) ?_
      obtain ⟨p6, hxp6, hlp6, h⟩ := h
      refine kz_nz0 (x := w_p w2 15 p5 15) hxp6 ?_
      refine kz_gfi (M := kt_M147) (c := 15) (o := p6) kX6_output_c2.2.2.2.1 wf_X6_193 (.inr (by exact hlp6)) ?_
      refine kz_if_eq (M := kt_M147) kX6_output_c2.2.2.2.2.1 (t := 93) rfl h (fun h => ?_) (fun h => ?_)
      · skip
        exact kz_weak [(0, .ref (w_adr E.2.1 5 0)), (3, va_rf (w_p w2 14 p1 4))] ⟨rfl, ⟨rfl, trivial⟩⟩ rfl (zt_X6_output_p93 hL  h)
      · skip
        refine kz_aload_nv (M := kt_M147) (x := w_p w2 14 p1 4) kX6_output_c2.2.2.2.2.2.1 rfl ?_
        obtain ⟨p7, hxp7, hlp7, h⟩ := h
        refine kz_nz0 (x := w_p w2 14 p1 4) hxp7 ?_
        refine kz_gfp (M := kt_M147) (c := 14) (o := p7) kX6_output_c2.2.2.2.2.2.2.1 wf_X6_124 (.inr (by exact hlp7)) ?_
        refine kz_getsE (M := kt_M147) (v := va_rf (some (E.1.1 18))) kX6_output_c2.2.2.2.2.2.2.2.1 zs_X6_270 ?_
        refine kz_acmp_ne (M := kt_M147) (x := w_p w2 14 p7 0) (y := some (E.1.1 18)) kX6_output_c3.1 (t := 93) rfl h (fun h => ?_) (fun h => ?_)
        · skip
          exact kz_weak [(0, .ref (w_adr E.2.1 5 0)), (3, va_rf (w_p w2 14 p1 4))] ⟨rfl, ⟨rfl, trivial⟩⟩ rfl (zt_X6_output_p93 hL  h)
        · skip
          refine kz_aload_nv (M := kt_M147) (x := w_p w2 14 p1 4) kX6_output_c3.2.1 rfl ?_
          refine kz_nz0 (x := w_p w2 14 p1 4) hxp7 ?_
          refine kz_gfp (M := kt_M147) (c := 14) (o := p7) kX6_output_c3.2.2.1 wf_X6_93 (.inr (by exact hlp7)) ?_
          refine kz_ifnonnull (M := kt_M147) (x := w_p w2 14 p7 3) kX6_output_c3.2.2.2.1 (t := 93) rfl h (fun h => ?_) (fun h => ?_)
          · skip
            exact kz_weak [(0, .ref (w_adr E.2.1 5 0)), (3, va_rf (w_p w2 14 p1 4))] ⟨rfl, ⟨rfl, trivial⟩⟩ rfl (zt_X6_output_p93 hL  h)
          · skip
            refine kz_aload_nv (M := kt_M147) (x := w_p w2 14 p1 4) kX6_output_c3.2.2.2.2.1 rfl ?_
            refine kz_nz0 (x := w_p w2 14 p1 4) hxp7 ?_
            refine kz_gfi (M := kt_M147) (c := 14) (o := p7) kX6_output_c3.2.2.2.2.2.1 wf_X6_273 (.inr (by exact hlp7)) ?_
            refine kz_if_ne (M := kt_M147) kX6_output_c3.2.2.2.2.2.2.1 (t := 93) rfl h (fun h => ?_) (fun h => ?_)
            · skip
              exact kz_weak [(0, .ref (w_adr E.2.1 5 0)), (3, va_rf (w_p w2 14 p1 4))] ⟨rfl, ⟨rfl, trivial⟩⟩ rfl (zt_X6_output_p93 hL  h)
            · skip
              refine kz_aload_nv (M := kt_M147) (x := w_p w2 14 p1 4) kX6_output_c3.2.2.2.2.2.2.2.1 rfl ?_
              refine kz_aload_n (M := kt_M147) kX6_output_c4.1 rfl ?_
              refine kz_aload_nv (M := kt_M147) (x := w_p w2 14 p1 4) kX6_output_c4.2.1 rfl ?_
              refine kz_nz0 (x := w_p w2 14 p1 4) hxp7 ?_
              refine kz_gfi (M := kt_M147) (c := 14) (o := p7) kX6_output_c4.2.2.1 wf_X6_83 (.inr (by exact hlp7)) ?_
              refine kz_aload_nv (M := kt_M147) (x := w_p w2 14 p1 4) kX6_output_c4.2.2.2.1 rfl ?_
              refine kz_nz0 (x := w_p w2 14 p1 4) hxp7 ?_
              refine kz_gfi (M := kt_M147) (c := 14) (o := p7) kX6_output_c4.2.2.2.2.1 wf_X6_86 (.inr (by exact hlp7)) ?_
              refine kz_getsE (M := kt_M147) (v := va_rf (some (E.1.1 59))) kX6_output_c4.2.2.2.2.2.1 zs_X6_196 ?_
              refine kz_cvr (M := kt_M147) (c := 5) (o := 0) (As := [.int (w_i w2 14 p7 9), .int (w_i w2 14 p7 2), va_rf (some (E.1.1 59))]) (rest := [va_rf (w_p w2 14 p1 4)]) kX6_output_c4.2.2.2.2.2.2.1 wl_X6_118 wMv_143 rfl (.inl rfl) rfl (Nat.le_trans (Nat.le_of_ble_eq_true rfl) hL) (by simp [lg_sl, w_cat, z_ci, z_cr, z_cl, z_cn, kt_M143]) (by simp [kx_cat, w_cat, z_ci, z_cr, z_cl, z_cn]) h (fun v9 w8 hle h => ?_) (fun _ _ _ h => kzx_no rfl h)
              have h := h hle
              have hlp1 := w_l_le hlp1 hle
              have hlp4 := w_l_le hlp4 hle
              have hlp5 := w_l_le hlp5 hle
              have hlp6 := w_l_le hlp6 hle
              have hlp7 := w_l_le hlp7 hle
              refine kz_nz1 (x := w_p w2 14 p1 4) hxp7 ?_
              refine kz_pfp (M := kt_M147) (n := v9) (c := 14) (o := p7) kX6_output_c4.2.2.2.2.2.2.2.1 wq_X6_146 (.inr (by exact hlp7)) ?_
              refine kz_aload_nv (M := kt_M147) (x := w_p w2 14 p1 4) kX6_output_c5.1 rfl ?_
              refine kz_nz0 (x := w_p w2 14 p1 4) hxp7 ?_
              refine kz_gfpR (M := kt_M147) (c := 14) (o := p7) (w_p w8 14 p7 7) kX6_output_c5.2.1 wf_X6_89 (.inr (by exact hlp7)) (rd_p_p rfl) ?_
              refine kz_stv_n (M := kt_M147) (x := w_p w8 14 p7 7) [(0, .ref (w_adr E.2.1 5 0))] kX6_output_c5.2.2.1 (Nat.le_of_ble_eq_true rfl) ⟨⟨rfl, rfl, .inl rfl⟩, trivial⟩ rfl ?_
              exact kz_weak [(0, .ref (w_adr E.2.1 5 0)), (3, va_rf (w_p w8 14 p7 7))] ⟨rfl, ⟨rfl, trivial⟩⟩ rfl (zt_X6_output_p93 hL  h)
def zb_X6_argument_p79 (E : zE) (L : Nat) (Q : kx_Rs → wS → Prop) (w : wS) : Prop := Q (.inl none) w
theorem zt_X6_argument_p79 {E : zE} {L : Nat} {Q : kx_Rs → wS → Prop} {w : wS} (hL : 23 ≤ L) (h : zb_X6_argument_p79 E L Q  w) : kzE E L kt_M134 79 [(0, .ref (w_adr E.2.1 5 0))] [] w Q := by
  unfold zb_X6_argument_p79 at h
  exact kz_ret (M := kt_M134) kX6_argument_c4.2.2.2.2.2.1 rfl h
def zb_X6_argument_p54 (E : zE) (L : Nat) (Q : kx_Rs → wS → Prop) (x1 : Option Nat) (w : wS) : Prop := (∃ p1, x1 = some p1 ∧ w_l w E.2.1 14 p1 ∧ (if (w_p w 14 p1 16) = none then zb_X6_argument_p79 E L Q w else (∃ p2, w_p w 14 p1 16 = some p2 ∧ w_l w E.2.1 15 p2 ∧ (if w_p w 15 p2 0 = some (E.1.1 53) then zb_X6_argument_p79 E L Q w else zw E (L - 21) kt_M155 [.ref (w_adr E.2.1 5 0), va_rf (x1)] w (wk0 (fun w3 => wle w w3 → zb_X6_argument_p79 E L Q w3) (fun e w => Q (.inr e) w))))))
theorem zt_X6_argument_p54 {E : zE} {L : Nat} {Q : kx_Rs → wS → Prop} {x1 : Option Nat} {w : wS} (hL : 23 ≤ L) (h : zb_X6_argument_p54 E L Q x1 w) : kzE E L kt_M134 54 [(0, .ref (w_adr E.2.1 5 0)), (1, va_rf (x1))] [] w Q := by
  unfold zb_X6_argument_p54 at h
  refine kz_aload_nv (M := kt_M134) (x := x1) kX6_argument_c3.2.2.1 rfl ?_
  obtain ⟨p1, hxp1, hlp1, h⟩ := h
  refine kz_nz0 (x := x1) hxp1 ?_
  refine kz_gfp (M := kt_M134) (c := 14) (o := p1) kX6_argument_c3.2.2.2.1 wf_X6_146 (.inr (by exact hlp1)) ?_
  refine kz_ifnull (M := kt_M134) (x := w_p w 14 p1 16) kX6_argument_c3.2.2.2.2.1 (t := 79) rfl h (fun h => ?_) (fun h => ?_)
  · skip
    exact kz_weak [(0, .ref (w_adr E.2.1 5 0))] ⟨rfl, trivial⟩ rfl (zt_X6_argument_p79 hL  h)
  · skip
    refine kz_aload_nv (M := kt_M134) (x := x1) kX6_argument_c3.2.2.2.2.2.1 rfl ?_
    refine kz_nz0 (x := x1) hxp1 ?_
    refine kz_gfp (M := kt_M134) (c := 14) (o := p1) kX6_argument_c3.2.2.2.2.2.2.1 wf_X6_146 (.inr (by exact hlp1)) ?_
    obtain ⟨p2, hxp2, hlp2, h⟩ := h
    refine kz_nz0 (x := w_p w 14 p1 16) hxp2 ?_
    refine kz_gfp (M := kt_M134) (c := 15) (o := p2) kX6_argument_c3.2.2.2.2.2.2.2.1 wf_X6_80 (.inr (by exact hlp2)) ?_
    refine kz_getsE (M := kt_M134) (v := va_rf (some (E.1.1 53))) kX6_argument_c4.1 zs_X6_31 ?_
    refine kz_acmp_eq (M := kt_M134) (x := w_p w 15 p2 0) (y := some (E.1.1 53)) kX6_argument_c4.2.1 (t := 79) rfl h (fun h => ?_) (fun h => ?_)
    · skip
      exact kz_weak [(0, .ref (w_adr E.2.1 5 0))] ⟨rfl, trivial⟩ rfl (zt_X6_argument_p79 hL  h)
    · skip
      refine kz_aload_n (M := kt_M134) kX6_argument_c4.2.2.1 rfl ?_
      refine kz_aload_nv (M := kt_M134) (x := x1) kX6_argument_c4.2.2.2.1 rfl ?_
      refine kz_cv0 (M := kt_M134) (c := 5) (o := 0) (As := [va_rf (x1)]) (rest := []) kX6_argument_c4.2.2.2.2.1 wl_X6_276 wMv_155 rfl (.inl rfl) rfl (Nat.le_trans (Nat.le_of_ble_eq_true rfl) hL) (by simp [lg_sl, w_cat, z_ci, z_cr, z_cl, z_cn, kt_M155]) (Nat.le_of_ble_eq_true rfl) h (fun w3 hle h => ?_) (fun _ _ _ h => kzx_no rfl h)
      have h := h hle
      have hlp1 := w_l_le hlp1 hle
      have hlp2 := w_l_le hlp2 hle
      exact kz_weak [(0, .ref (w_adr E.2.1 5 0))] ⟨rfl, trivial⟩ rfl (zt_X6_argument_p79 hL  h)
def zb_X6_argument_p17 (E : zE) (L : Nat) (Q : kx_Rs → wS → Prop) (x1 : Option Nat) (w : wS) : Prop := zw E (L - 21) kt_M140 [.ref (w_adr E.2.1 5 0), va_rf (x1)] w (wk0 (fun w1 => wle w w1 → Q (.inl none) w1) (fun e w => Q (.inr e) w))
theorem zt_X6_argument_p17 {E : zE} {L : Nat} {Q : kx_Rs → wS → Prop} {x1 : Option Nat} {w : wS} (hL : 23 ≤ L) (h : zb_X6_argument_p17 E L Q x1 w) : kzE E L kt_M134 17 [(0, .ref (w_adr E.2.1 5 0)), (1, va_rf (x1))] [] w Q := by
  unfold zb_X6_argument_p17 at h
  refine kz_aload_n (M := kt_M134) kX6_argument_c0.2.2.2.2.2.2.2.1 rfl ?_
  refine kz_aload_nv (M := kt_M134) (x := x1) kX6_argument_c1.1 rfl ?_
  refine kz_cv0 (M := kt_M134) (c := 5) (o := 0) (As := [va_rf (x1)]) (rest := []) kX6_argument_c1.2.1 wl_X6_137 wMv_140 rfl (.inl rfl) rfl (Nat.le_trans (Nat.le_of_ble_eq_true rfl) hL) (by simp [lg_sl, w_cat, z_ci, z_cr, z_cl, z_cn, kt_M140]) (Nat.le_of_ble_eq_true rfl) h (fun w1 hle h => ?_) (fun _ _ _ h => kzx_no rfl h)
  have h := h hle
  exact kz_ret (M := kt_M134) kX6_argument_c1.2.2.1 rfl h
def zb_X6_argument_p0 (E : zE) (L : Nat) (Q : kx_Rs → wS → Prop) (x1 : Option Nat) (w : wS) : Prop := (∃ p1, x1 = some p1 ∧ w_l w E.2.1 14 p1 ∧ (if ¬ w_p w 14 p1 0 = some (E.1.1 18) then zb_X6_argument_p17 E L Q x1 w else (if w_i w 14 p1 12 = 0 then zw E (L - 23) kt_M142 [.ref (w_adr E.2.1 5 0), .int (w_i w 14 p1 9), .int (w_i w 14 p1 2)] w (wkr (fun v3 w2 => wle w w2 → (if (w_p w2 14 p1 3) = none then zb_X6_argument_p54 E L Q x1 (ws_p w2 14 p1 16 v3) else zw E (L - 21) kt_M140 [.ref (w_adr E.2.1 5 0), va_rf (w_p w2 14 p1 3)] (ws_p w2 14 p1 16 v3) (wk0 (fun w4 => wle (ws_p w2 14 p1 16 v3) w4 → zb_X6_argument_p54 E L Q x1 w4) (fun e w => Q (.inr e) w)))) (fun e w => Q (.inr e) w)) else zb_X6_argument_p17 E L Q x1 w)))
theorem zt_X6_argument_p0 {E : zE} {L : Nat} {Q : kx_Rs → wS → Prop} {x1 : Option Nat} {w : wS} (hL : 23 ≤ L) (h : zb_X6_argument_p0 E L Q x1 w) : kzE E L kt_M134 0 [(0, .ref (w_adr E.2.1 5 0)), (1, va_rf (x1))] [] w Q := by
  unfold zb_X6_argument_p0 at h
  refine kz_aload_nv (M := kt_M134) (x := x1) kX6_argument_c0.1 rfl ?_
  obtain ⟨p1, hxp1, hlp1, h⟩ := h
  refine kz_nz0 (x := x1) hxp1 ?_
  refine kz_gfp (M := kt_M134) (c := 14) (o := p1) kX6_argument_c0.2.1 wf_X6_124 (.inr (by exact hlp1)) ?_
  refine kz_getsE (M := kt_M134) (v := va_rf (some (E.1.1 18))) kX6_argument_c0.2.2.1 zs_X6_270 ?_
  refine kz_acmp_ne (M := kt_M134) (x := w_p w 14 p1 0) (y := some (E.1.1 18)) kX6_argument_c0.2.2.2.1 (t := 17) rfl h (fun h => ?_) (fun h => ?_)
  · skip
    exact kz_weak [(0, .ref (w_adr E.2.1 5 0)), (1, va_rf (x1))] ⟨rfl, ⟨rfl, trivial⟩⟩ rfl (zt_X6_argument_p17 hL  h)
  · skip
    refine kz_aload_nv (M := kt_M134) (x := x1) kX6_argument_c0.2.2.2.2.1 rfl ?_
    refine kz_nz0 (x := x1) hxp1 ?_
    refine kz_gfi (M := kt_M134) (c := 14) (o := p1) kX6_argument_c0.2.2.2.2.2.1 wf_X6_273 (.inr (by exact hlp1)) ?_
    refine kz_if_eq (M := kt_M134) kX6_argument_c0.2.2.2.2.2.2.1 (t := 23) rfl h (fun h => ?_) (fun h => ?_)
    · skip
      refine kz_aload_nv (M := kt_M134) (x := x1) kX6_argument_c1.2.2.2.1 rfl ?_
      refine kz_aload_n (M := kt_M134) kX6_argument_c1.2.2.2.2.1 rfl ?_
      refine kz_aload_nv (M := kt_M134) (x := x1) kX6_argument_c1.2.2.2.2.2.1 rfl ?_
      refine kz_nz0 (x := x1) hxp1 ?_
      refine kz_gfi (M := kt_M134) (c := 14) (o := p1) kX6_argument_c1.2.2.2.2.2.2.1 wf_X6_83 (.inr (by exact hlp1)) ?_
      refine kz_aload_nv (M := kt_M134) (x := x1) kX6_argument_c1.2.2.2.2.2.2.2.1 rfl ?_
      refine kz_nz0 (x := x1) hxp1 ?_
      refine kz_gfi (M := kt_M134) (c := 14) (o := p1) kX6_argument_c2.1 wf_X6_86 (.inr (by exact hlp1)) ?_
      refine kz_cvr (M := kt_M134) (c := 5) (o := 0) (As := [.int (w_i w 14 p1 9), .int (w_i w 14 p1 2)]) (rest := [va_rf (x1)]) kX6_argument_c2.2.1 wl_X6_76 wMv_142 rfl (.inl rfl) rfl (Nat.le_trans (Nat.le_of_ble_eq_true rfl) hL) (Nat.le_of_ble_eq_true rfl) (by simp [kx_cat, w_cat, z_ci, z_cr, z_cl, z_cn]) h (fun v3 w2 hle h => ?_) (fun _ _ _ h => kzx_no rfl h)
      have h := h hle
      have hlp1 := w_l_le hlp1 hle
      refine kz_nz1 (x := x1) hxp1 ?_
      refine kz_pfp (M := kt_M134) (n := v3) (c := 14) (o := p1) kX6_argument_c2.2.2.1 wq_X6_146 (.inr (by exact hlp1)) ?_
      refine kz_aload_nv (M := kt_M134) (x := x1) kX6_argument_c2.2.2.2.1 rfl ?_
      refine kz_nz0 (x := x1) hxp1 ?_
      refine kz_gfpR (M := kt_M134) (c := 14) (o := p1) (w_p w2 14 p1 3) kX6_argument_c2.2.2.2.2.1 wf_X6_93 (.inr (by exact hlp1)) (rd_p_p rfl) ?_
      refine kz_ifnull (M := kt_M134) (x := w_p w2 14 p1 3) kX6_argument_c2.2.2.2.2.2.1 (t := 54) rfl h (fun h => ?_) (fun h => ?_)
      · skip
        exact kz_weak [(0, .ref (w_adr E.2.1 5 0)), (1, va_rf (x1))] ⟨rfl, ⟨rfl, trivial⟩⟩ rfl (zt_X6_argument_p54 hL  h)
      · skip
        refine kz_aload_n (M := kt_M134) kX6_argument_c2.2.2.2.2.2.2.1 rfl ?_
        refine kz_aload_nv (M := kt_M134) (x := x1) kX6_argument_c2.2.2.2.2.2.2.2.1 rfl ?_
        refine kz_nz0 (x := x1) hxp1 ?_
        refine kz_gfpR (M := kt_M134) (c := 14) (o := p1) (w_p w2 14 p1 3) kX6_argument_c3.1 wf_X6_93 (.inr (by exact hlp1)) (rd_p_p rfl) ?_
        refine kz_cv0 (M := kt_M134) (c := 5) (o := 0) (As := [va_rf (w_p w2 14 p1 3)]) (rest := []) kX6_argument_c3.2.1 wl_X6_137 wMv_140 rfl (.inl rfl) rfl (Nat.le_trans (Nat.le_of_ble_eq_true rfl) hL) (by simp [lg_sl, w_cat, z_ci, z_cr, z_cl, z_cn, kt_M140]) (Nat.le_of_ble_eq_true rfl) h (fun w4 hle h => ?_) (fun _ _ _ h => kzx_no rfl h)
        have h := h hle
        have hlp1 := w_l_le hlp1 hle
        exact kz_weak [(0, .ref (w_adr E.2.1 5 0)), (1, va_rf (x1))] ⟨rfl, ⟨rfl, trivial⟩⟩ rfl (zt_X6_argument_p54 hL  h)
    · skip
      exact kz_weak [(0, .ref (w_adr E.2.1 5 0)), (1, va_rf (x1))] ⟨rfl, ⟨rfl, trivial⟩⟩ rfl (zt_X6_argument_p17 hL  h)
def zb_X6_replicator_p0 (E : zE) (L : Nat) (Q : kx_Rs → wS → Prop) (x1 : Option Nat) (w : wS) : Prop := (if ¬ x1 = none then (∃ p1, x1 = some p1 ∧ w_l w E.2.1 14 p1 ∧ zw E (L - 21) kt_M140 [.ref (w_adr E.2.1 5 0), va_rf (w_p w 14 p1 3)] w (wk0 (fun w2 => wle w w2 → zw E (L - 21) kt_M140 [.ref (w_adr E.2.1 5 0), va_rf (w_p w2 14 p1 4)] w2 (wk0 (fun w4 => wle w2 w4 → zw E (L - 24) kt_M137 [.ref (w_adr E.2.1 5 0), va_rf (some (E.1.1 55)), .int (w_i w4 14 p1 9), .int (w_i w4 14 p1 2)] w4 (wkr (fun v7 w6 => wle w4 w6 → (∃ p8, v7 = some p8 ∧ w_l (ws_p w6 14 p1 16 v7) E.2.1 15 p8 ∧ Q (.inl none) (ws_i (ws_i (ws_p w6 14 p1 16 v7) 15 p8 5 1) 15 p8 13 1))) (fun e w => Q (.inr e) w))) (fun e w => Q (.inr e) w))) (fun e w => Q (.inr e) w))) else Q (.inl none) w)
theorem zt_X6_replicator_p0 {E : zE} {L : Nat} {Q : kx_Rs → wS → Prop} {x1 : Option Nat} {w : wS} (hL : 24 ≤ L) (h : zb_X6_replicator_p0 E L Q x1 w) : kzE E L kt_M152 0 [(0, .ref (w_adr E.2.1 5 0)), (1, va_rf (x1))] [] w Q := by
  unfold zb_X6_replicator_p0 at h
  refine kz_aload_nv (M := kt_M152) (x := x1) kX6_replicator_c0.1 rfl ?_
  refine kz_ifnonnull (M := kt_M152) (x := x1) kX6_replicator_c0.2.1 (t := 5) rfl h (fun h => ?_) (fun h => ?_)
  · skip
    refine kz_aload_n (M := kt_M152) kX6_replicator_c0.2.2.2.1 rfl ?_
    refine kz_aload_nv (M := kt_M152) (x := x1) kX6_replicator_c0.2.2.2.2.1 rfl ?_
    obtain ⟨p1, hxp1, hlp1, h⟩ := h
    refine kz_nz0 (x := x1) hxp1 ?_
    refine kz_gfp (M := kt_M152) (c := 14) (o := p1) kX6_replicator_c0.2.2.2.2.2.1 wf_X6_93 (.inr (by exact hlp1)) ?_
    refine kz_cv0 (M := kt_M152) (c := 5) (o := 0) (As := [va_rf (w_p w 14 p1 3)]) (rest := []) kX6_replicator_c0.2.2.2.2.2.2.1 wl_X6_137 wMv_140 rfl (.inl rfl) rfl (Nat.le_trans (Nat.le_of_ble_eq_true rfl) hL) (by simp [lg_sl, w_cat, z_ci, z_cr, z_cl, z_cn, kt_M140]) (Nat.le_of_ble_eq_true rfl) h (fun w2 hle h => ?_) (fun _ _ _ h => kzx_no rfl h)
    have h := h hle
    have hlp1 := w_l_le hlp1 hle
    refine kz_aload_n (M := kt_M152) kX6_replicator_c0.2.2.2.2.2.2.2.1 rfl ?_
    refine kz_aload_nv (M := kt_M152) (x := x1) kX6_replicator_c1.1 rfl ?_
    refine kz_nz0 (x := x1) hxp1 ?_
    refine kz_gfp (M := kt_M152) (c := 14) (o := p1) kX6_replicator_c1.2.1 wf_X6_99 (.inr (by exact hlp1)) ?_
    refine kz_cv0 (M := kt_M152) (c := 5) (o := 0) (As := [va_rf (w_p w2 14 p1 4)]) (rest := []) kX6_replicator_c1.2.2.1 wl_X6_137 wMv_140 rfl (.inl rfl) rfl (Nat.le_trans (Nat.le_of_ble_eq_true rfl) hL) (by simp [lg_sl, w_cat, z_ci, z_cr, z_cl, z_cn, kt_M140]) (Nat.le_of_ble_eq_true rfl) h (fun w4 hle h => ?_) (fun _ _ _ h => kzx_no rfl h)
    have h := h hle
    have hlp1 := w_l_le hlp1 hle
    refine kz_aload_nv (M := kt_M152) (x := x1) kX6_replicator_c1.2.2.2.1 rfl ?_
    refine kz_aload_n (M := kt_M152) kX6_replicator_c1.2.2.2.2.1 rfl ?_
    refine kz_getsE (M := kt_M152) (v := va_rf (some (E.1.1 55))) kX6_replicator_c1.2.2.2.2.2.1 zs_X6_143 ?_
    refine kz_aload_nv (M := kt_M152) (x := x1) kX6_replicator_c1.2.2.2.2.2.2.1 rfl ?_
    refine kz_nz0 (x := x1) hxp1 ?_
    refine kz_gfi (M := kt_M152) (c := 14) (o := p1) kX6_replicator_c1.2.2.2.2.2.2.2.1 wf_X6_83 (.inr (by exact hlp1)) ?_
    refine kz_aload_nv (M := kt_M152) (x := x1) kX6_replicator_c2.1 rfl ?_
    refine kz_nz0 (x := x1) hxp1 ?_
    refine kz_gfi (M := kt_M152) (c := 14) (o := p1) kX6_replicator_c2.2.1 wf_X6_86 (.inr (by exact hlp1)) ?_
    refine kz_cvr (M := kt_M152) (c := 5) (o := 0) (As := [va_rf (some (E.1.1 55)), .int (w_i w4 14 p1 9), .int (w_i w4 14 p1 2)]) (rest := [va_rf (x1)]) kX6_replicator_c2.2.2.1 wl_X6_39 wMv_137 rfl (.inl rfl) rfl (Nat.le_trans (Nat.le_of_ble_eq_true rfl) hL) (by simp [lg_sl, w_cat, z_ci, z_cr, z_cl, z_cn, kt_M137]) (by simp [kx_cat, w_cat, z_ci, z_cr, z_cl, z_cn]) h (fun v7 w6 hle h => ?_) (fun _ _ _ h => kzx_no rfl h)
    have h := h hle
    have hlp1 := w_l_le hlp1 hle
    refine kz_nz1 (x := x1) hxp1 ?_
    refine kz_pfp (M := kt_M152) (n := v7) (c := 14) (o := p1) kX6_replicator_c2.2.2.2.1 wq_X6_146 (.inr (by exact hlp1)) ?_
    refine kz_aload_nv (M := kt_M152) (x := x1) kX6_replicator_c2.2.2.2.2.1 rfl ?_
    refine kz_nz0 (x := x1) hxp1 ?_
    refine kz_gfpR (M := kt_M152) (c := 14) (o := p1) v7 kX6_replicator_c2.2.2.2.2.2.1 wf_X6_146 (.inr (by exact hlp1)) rd_p_e ?_
    refine kz_ic (M := kt_M152) 1 kX6_replicator_c2.2.2.2.2.2.2.1 rfl ?_
    obtain ⟨p8, hxp8, hlp8, h⟩ := h
    refine kz_nz1 (x := v7) hxp8 ?_
    refine kz_pfi (M := kt_M152) (c := 15) (o := p8) kX6_replicator_c2.2.2.2.2.2.2.2.1 wq_X6_46 (.inr (by exact hlp8)) ?_
    refine kz_aload_nv (M := kt_M152) (x := x1) kX6_replicator_c3.1 rfl ?_
    refine kz_nz0 (x := x1) hxp1 ?_
    refine kz_gfpR (M := kt_M152) (c := 14) (o := p1) v7 kX6_replicator_c3.2.1 wf_X6_146 (.inr (by exact hlp1)) (rd_p_i.trans rd_p_e) ?_
    refine kz_ic (M := kt_M152) 1 kX6_replicator_c3.2.2.1 rfl ?_
    refine kz_nz1 (x := v7) hxp8 ?_
    refine kz_pfz (M := kt_M152) (c := 15) (o := p8) kX6_replicator_c3.2.2.2.1 wq_X6_262 (.inr (by exact hlp8)) (by decide) ?_
    exact kz_ret (M := kt_M152) kX6_replicator_c3.2.2.2.2.1 rfl h
  · skip
    exact kz_ret (M := kt_M152) kX6_replicator_c0.2.2.1 rfl h
def zL_X6_chosen_p39 (E : zE) (L : Nat) (Q : kx_Rs → wS → Prop) (x2 : Option Nat) (w : wS) : Prop := kzE E L kt_M135 39 [(0, .ref (w_adr E.2.1 5 0)), (2, va_rf (x2))] [] w Q
def zb_X6_chosen_p39 (E : zE) (L : Nat) (Q : kx_Rs → wS → Prop) (x2 : Option Nat) (w : wS) : Prop := (if x2 = none then Q (.inl none) w else (∃ p1, x2 = some p1 ∧ w_l w E.2.1 14 p1 ∧ zw E (L - 22) kt_M141 [.ref (w_adr E.2.1 5 0), va_rf (w_p w 14 p1 3)] w (wk0 (fun w2 => wle w w2 → zw E (L - 23) kt_M149 [.ref (w_adr E.2.1 5 0), va_rf (w_p w2 14 p1 4)] w2 (wk0 (fun w4 => wle w2 w4 → zL_X6_chosen_p39 E L Q (w_p w4 14 p1 7) w4) (fun e w => Q (.inr e) w))) (fun e w => Q (.inr e) w))))
theorem zt_X6_chosen_p39 {E : zE} {L : Nat} {Q : kx_Rs → wS → Prop} {x2 : Option Nat} {w : wS} (hL : 23 ≤ L) (h : zb_X6_chosen_p39 E L Q x2 w) : kzE E L kt_M135 39 [(0, .ref (w_adr E.2.1 5 0)), (2, va_rf (x2))] [] w Q := by
  unfold zb_X6_chosen_p39 at h
  refine kz_aload_nv (M := kt_M135) (x := x2) kX6_chosen_c2.2.2.2.1 rfl ?_
  refine kz_ifnull (M := kt_M135) (x := x2) kX6_chosen_c2.2.2.2.2.1 (t := 67) rfl h (fun h => ?_) (fun h => ?_)
  · skip
    exact kz_ret (M := kt_M135) kX6_chosen_c4.2.1 rfl h
  · skip
    refine kz_aload_n (M := kt_M135) kX6_chosen_c2.2.2.2.2.2.1 rfl ?_
    refine kz_aload_nv (M := kt_M135) (x := x2) kX6_chosen_c2.2.2.2.2.2.2.1 rfl ?_
    obtain ⟨p1, hxp1, hlp1, h⟩ := h
    refine kz_nz0 (x := x2) hxp1 ?_
    refine kz_gfp (M := kt_M135) (c := 14) (o := p1) kX6_chosen_c2.2.2.2.2.2.2.2.1 wf_X6_93 (.inr (by exact hlp1)) ?_
    refine kz_cv0 (M := kt_M135) (c := 5) (o := 0) (As := [va_rf (w_p w 14 p1 3)]) (rest := []) kX6_chosen_c3.1 wl_X6_231 wMv_141 rfl (.inl rfl) rfl (Nat.le_trans (Nat.le_of_ble_eq_true rfl) hL) (by simp [lg_sl, w_cat, z_ci, z_cr, z_cl, z_cn, kt_M141]) (Nat.le_of_ble_eq_true rfl) h (fun w2 hle h => ?_) (fun _ _ _ h => kzx_no rfl h)
    have h := h hle
    have hlp1 := w_l_le hlp1 hle
    refine kz_aload_n (M := kt_M135) kX6_chosen_c3.2.1 rfl ?_
    refine kz_aload_nv (M := kt_M135) (x := x2) kX6_chosen_c3.2.2.1 rfl ?_
    refine kz_nz0 (x := x2) hxp1 ?_
    refine kz_gfp (M := kt_M135) (c := 14) (o := p1) kX6_chosen_c3.2.2.2.1 wf_X6_99 (.inr (by exact hlp1)) ?_
    refine kz_cv0 (M := kt_M135) (c := 5) (o := 0) (As := [va_rf (w_p w2 14 p1 4)]) (rest := []) kX6_chosen_c3.2.2.2.2.1 wl_X6_54 wMv_149 rfl (.inl rfl) rfl (Nat.le_trans (Nat.le_of_ble_eq_true rfl) hL) (by simp [lg_sl, w_cat, z_ci, z_cr, z_cl, z_cn, kt_M149]) (Nat.le_of_ble_eq_true rfl) h (fun w4 hle h => ?_) (fun _ _ _ h => kzx_no rfl h)
    have h := h hle
    have hlp1 := w_l_le hlp1 hle
    refine kz_aload_nv (M := kt_M135) (x := x2) kX6_chosen_c3.2.2.2.2.2.1 rfl ?_
    refine kz_nz0 (x := x2) hxp1 ?_
    refine kz_gfp (M := kt_M135) (c := 14) (o := p1) kX6_chosen_c3.2.2.2.2.2.2.1 wf_X6_89 (.inr (by exact hlp1)) ?_
    refine kz_stv_n (M := kt_M135) (x := w_p w4 14 p1 7) [(0, .ref (w_adr E.2.1 5 0))] kX6_chosen_c3.2.2.2.2.2.2.2.1 (Nat.le_of_ble_eq_true rfl) ⟨⟨rfl, rfl, .inl rfl⟩, trivial⟩ rfl ?_
    refine kz_goto (M := kt_M135) kX6_chosen_c4.1 (t := 39) rfl ?_
    exact kz_weak [(0, .ref (w_adr E.2.1 5 0)), (2, va_rf (w_p w4 14 p1 7))] ⟨rfl, ⟨rfl, trivial⟩⟩ rfl h
def zb_X6_chosen_p15 (E : zE) (L : Nat) (Q : kx_Rs → wS → Prop) (x1 : Option Nat) (w : wS) : Prop := (∃ p1, x1 = some p1 ∧ w_l w E.2.1 14 p1 ∧ (if ¬ w_p w 14 p1 0 = some (E.1.1 50) then zL_X6_chosen_p39 E L Q (w_p w 14 p1 4) w else zw E (L - 23) kt_M149 [.ref (w_adr E.2.1 5 0), va_rf (w_p w 14 p1 4)] w (wk0 (fun w2 => wle w w2 → Q (.inl none) w2) (fun e w => Q (.inr e) w))))
theorem zt_X6_chosen_p15 {E : zE} {L : Nat} {Q : kx_Rs → wS → Prop} {x1 : Option Nat} {w : wS} (hL : 23 ≤ L) (h : zb_X6_chosen_p15 E L Q x1 w) : kzE E L kt_M135 15 [(0, .ref (w_adr E.2.1 5 0)), (1, va_rf (x1))] [] w Q := by
  unfold zb_X6_chosen_p15 at h
  refine kz_aload_nv (M := kt_M135) (x := x1) kX6_chosen_c0.2.2.2.2.2.2.2.1 rfl ?_
  obtain ⟨p1, hxp1, hlp1, h⟩ := h
  refine kz_nz0 (x := x1) hxp1 ?_
  refine kz_gfp (M := kt_M135) (c := 14) (o := p1) kX6_chosen_c1.1 wf_X6_124 (.inr (by exact hlp1)) ?_
  refine kz_getsE (M := kt_M135) (v := va_rf (some (E.1.1 50))) kX6_chosen_c1.2.1 zs_X6_264 ?_
  refine kz_acmp_ne (M := kt_M135) (x := w_p w 14 p1 0) (y := some (E.1.1 50)) kX6_chosen_c1.2.2.1 (t := 34) rfl h (fun h => ?_) (fun h => ?_)
  · skip
    refine kz_aload_nv (M := kt_M135) (x := x1) kX6_chosen_c2.1 rfl ?_
    refine kz_nz0 (x := x1) hxp1 ?_
    refine kz_gfp (M := kt_M135) (c := 14) (o := p1) kX6_chosen_c2.2.1 wf_X6_99 (.inr (by exact hlp1)) ?_
    refine kz_stv_n (M := kt_M135) (x := w_p w 14 p1 4) [(0, .ref (w_adr E.2.1 5 0))] kX6_chosen_c2.2.2.1 (Nat.le_of_ble_eq_true rfl) ⟨⟨rfl, rfl, .inl rfl⟩, trivial⟩ rfl ?_
    exact kz_weak [(0, .ref (w_adr E.2.1 5 0)), (2, va_rf (w_p w 14 p1 4))] ⟨rfl, ⟨rfl, trivial⟩⟩ rfl h
  · skip
    refine kz_aload_n (M := kt_M135) kX6_chosen_c1.2.2.2.1 rfl ?_
    refine kz_aload_nv (M := kt_M135) (x := x1) kX6_chosen_c1.2.2.2.2.1 rfl ?_
    refine kz_nz0 (x := x1) hxp1 ?_
    refine kz_gfp (M := kt_M135) (c := 14) (o := p1) kX6_chosen_c1.2.2.2.2.2.1 wf_X6_99 (.inr (by exact hlp1)) ?_
    refine kz_cv0 (M := kt_M135) (c := 5) (o := 0) (As := [va_rf (w_p w 14 p1 4)]) (rest := []) kX6_chosen_c1.2.2.2.2.2.2.1 wl_X6_54 wMv_149 rfl (.inl rfl) rfl (Nat.le_trans (Nat.le_of_ble_eq_true rfl) hL) (by simp [lg_sl, w_cat, z_ci, z_cr, z_cl, z_cn, kt_M149]) (Nat.le_of_ble_eq_true rfl) h (fun w2 hle h => ?_) (fun _ _ _ h => kzx_no rfl h)
    have h := h hle
    have hlp1 := w_l_le hlp1 hle
    exact kz_ret (M := kt_M135) kX6_chosen_c1.2.2.2.2.2.2.2.1 rfl h
def zb_X6_chosen_p0 (E : zE) (L : Nat) (Q : kx_Rs → wS → Prop) (x1 : Option Nat) (w : wS) : Prop := (∃ p1, x1 = some p1 ∧ w_l w E.2.1 14 p1 ∧ (if (w_p w 14 p1 3) = none then zb_X6_chosen_p15 E L Q x1 w else zw E (L - 21) kt_M140 [.ref (w_adr E.2.1 5 0), va_rf (w_p w 14 p1 3)] w (wk0 (fun w2 => wle w w2 → zb_X6_chosen_p15 E L Q x1 w2) (fun e w => Q (.inr e) w))))
theorem zt_X6_chosen_p0 {E : zE} {L : Nat} {Q : kx_Rs → wS → Prop} {x1 : Option Nat} {w : wS} (hL : 23 ≤ L) (h : zb_X6_chosen_p0 E L Q x1 w) : kzE E L kt_M135 0 [(0, .ref (w_adr E.2.1 5 0)), (1, va_rf (x1))] [] w Q := by
  unfold zb_X6_chosen_p0 at h
  refine kz_aload_nv (M := kt_M135) (x := x1) kX6_chosen_c0.1 rfl ?_
  obtain ⟨p1, hxp1, hlp1, h⟩ := h
  refine kz_nz0 (x := x1) hxp1 ?_
  refine kz_gfp (M := kt_M135) (c := 14) (o := p1) kX6_chosen_c0.2.1 wf_X6_93 (.inr (by exact hlp1)) ?_
  refine kz_ifnull (M := kt_M135) (x := w_p w 14 p1 3) kX6_chosen_c0.2.2.1 (t := 15) rfl h (fun h => ?_) (fun h => ?_)
  · skip
    exact kz_weak [(0, .ref (w_adr E.2.1 5 0)), (1, va_rf (x1))] ⟨rfl, ⟨rfl, trivial⟩⟩ rfl (zt_X6_chosen_p15 hL  h)
  · skip
    refine kz_aload_n (M := kt_M135) kX6_chosen_c0.2.2.2.1 rfl ?_
    refine kz_aload_nv (M := kt_M135) (x := x1) kX6_chosen_c0.2.2.2.2.1 rfl ?_
    refine kz_nz0 (x := x1) hxp1 ?_
    refine kz_gfp (M := kt_M135) (c := 14) (o := p1) kX6_chosen_c0.2.2.2.2.2.1 wf_X6_93 (.inr (by exact hlp1)) ?_
    refine kz_cv0 (M := kt_M135) (c := 5) (o := 0) (As := [va_rf (w_p w 14 p1 3)]) (rest := []) kX6_chosen_c0.2.2.2.2.2.2.1 wl_X6_137 wMv_140 rfl (.inl rfl) rfl (Nat.le_trans (Nat.le_of_ble_eq_true rfl) hL) (by simp [lg_sl, w_cat, z_ci, z_cr, z_cl, z_cn, kt_M140]) (Nat.le_of_ble_eq_true rfl) h (fun w2 hle h => ?_) (fun _ _ _ h => kzx_no rfl h)
    have h := h hle
    have hlp1 := w_l_le hlp1 hle
    exact kz_weak [(0, .ref (w_adr E.2.1 5 0)), (1, va_rf (x1))] ⟨rfl, ⟨rfl, trivial⟩⟩ rfl (zt_X6_chosen_p15 hL  h)
