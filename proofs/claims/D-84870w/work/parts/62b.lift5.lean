/-! ===== methods over the typed state (printed by tools/gen_lift.py) ===== -/
set_option maxRecDepth 100000
theorem zs_X5_119 {E : zE} : ∃ r n d, kx_fl (zV E) "MeetingHouse$Parser" 119 = some (r, n, d) ∧ kx_sv (zV E) r n d = some (va_rf (some (E.1.1 4))) := ⟨_, _, _, (show kt_get kt_flA "MeetingHouse$Parser" 119 = some ("MeetingHouse$Sort", "CHARACTER", "LMeetingHouse$Sort;") from by decide +kernel), kx_sv_E.trans (kw_sv_en zen_4)⟩
theorem zs_X5_246 {E : zE} : ∃ r n d, kx_fl (zV E) "MeetingHouse$Parser" 246 = some (r, n, d) ∧ kx_sv (zV E) r n d = some (va_rf (some (E.1.1 25))) := ⟨_, _, _, (show kt_get kt_flA "MeetingHouse$Parser" 246 = some ("MeetingHouse$Kind", "ABBREVIATION", "LMeetingHouse$Kind;") from by decide +kernel), kx_sv_E.trans (kw_sv_en zen_25)⟩
theorem zs_X5_252 {E : zE} : ∃ r n d, kx_fl (zV E) "MeetingHouse$Parser" 252 = some (r, n, d) ∧ kx_sv (zV E) r n d = some (va_rf (some (E.1.1 28))) := ⟨_, _, _, (show kt_get kt_flA "MeetingHouse$Parser" 252 = some ("MeetingHouse$Kind", "VALUE", "LMeetingHouse$Kind;") from by decide +kernel), kx_sv_E.trans (kw_sv_en zen_28)⟩
theorem zs_X5_258 {E : zE} : ∃ r n d, kx_fl (zV E) "MeetingHouse$Parser" 258 = some (r, n, d) ∧ kx_sv (zV E) r n d = some (va_rf (some (E.1.1 30))) := ⟨_, _, _, (show kt_get kt_flA "MeetingHouse$Parser" 258 = some ("MeetingHouse$Kind", "PART", "LMeetingHouse$Kind;") from by decide +kernel), kx_sv_E.trans (kw_sv_en zen_30)⟩
theorem zs_X5_261 {E : zE} : ∃ r n d, kx_fl (zV E) "MeetingHouse$Parser" 261 = some (r, n, d) ∧ kx_sv (zV E) r n d = some (va_rf (some (E.1.1 29))) := ⟨_, _, _, (show kt_get kt_flA "MeetingHouse$Parser" 261 = some ("MeetingHouse$Kind", "PROTOCOL", "LMeetingHouse$Kind;") from by decide +kernel), kx_sv_E.trans (kw_sv_en zen_29)⟩
theorem zs_X5_267 {E : zE} : ∃ r n d, kx_fl (zV E) "MeetingHouse$Parser" 267 = some (r, n, d) ∧ kx_sv (zV E) r n d = some (va_rf (some (E.1.1 31))) := ⟨_, _, _, (show kt_get kt_flA "MeetingHouse$Parser" 267 = some ("MeetingHouse$Kind", "TAGS", "LMeetingHouse$Kind;") from by decide +kernel), kx_sv_E.trans (kw_sv_en zen_31)⟩
theorem zs_X5_270 {E : zE} : ∃ r n d, kx_fl (zV E) "MeetingHouse$Parser" 270 = some (r, n, d) ∧ kx_sv (zV E) r n d = some (va_rf (some (E.1.1 32))) := ⟨_, _, _, (show kt_get kt_flA "MeetingHouse$Parser" 270 = some ("MeetingHouse$Kind", "TAG", "LMeetingHouse$Kind;") from by decide +kernel), kx_sv_E.trans (kw_sv_en zen_32)⟩
theorem zs_X5_276 {E : zE} : ∃ r n d, kx_fl (zV E) "MeetingHouse$Parser" 276 = some (r, n, d) ∧ kx_sv (zV E) r n d = some (va_rf (some (E.1.1 33))) := ⟨_, _, _, (show kt_get kt_flA "MeetingHouse$Parser" 276 = some ("MeetingHouse$Kind", "PROC", "LMeetingHouse$Kind;") from by decide +kernel), kx_sv_E.trans (kw_sv_en zen_33)⟩
theorem zs_X5_300 {E : zE} : ∃ r n d, kx_fl (zV E) "MeetingHouse$Parser" 300 = some (r, n, d) ∧ kx_sv (zV E) r n d = some (va_rf (some (E.1.1 34))) := ⟨_, _, _, (show kt_get kt_flA "MeetingHouse$Parser" 300 = some ("MeetingHouse$Kind", "SKIP", "LMeetingHouse$Kind;") from by decide +kernel), kx_sv_E.trans (kw_sv_en zen_34)⟩
theorem zs_X5_306 {E : zE} : ∃ r n d, kx_fl (zV E) "MeetingHouse$Parser" 306 = some (r, n, d) ∧ kx_sv (zV E) r n d = some (va_rf (some (E.1.1 42))) := ⟨_, _, _, (show kt_get kt_flA "MeetingHouse$Parser" 306 = some ("MeetingHouse$Kind", "STOP", "LMeetingHouse$Kind;") from by decide +kernel), kx_sv_E.trans (kw_sv_en zen_42)⟩
theorem zs_X5_309 {E : zE} : ∃ r n d, kx_fl (zV E) "MeetingHouse$Parser" 309 = some (r, n, d) ∧ kx_sv (zV E) r n d = some (va_rf (some (E.1.1 43))) := ⟨_, _, _, (show kt_get kt_flA "MeetingHouse$Parser" 309 = some ("MeetingHouse$Kind", "SEQ", "LMeetingHouse$Kind;") from by decide +kernel), kx_sv_E.trans (kw_sv_en zen_43)⟩
theorem zs_X5_312 {E : zE} : ∃ r n d, kx_fl (zV E) "MeetingHouse$Parser" 312 = some (r, n, d) ∧ kx_sv (zV E) r n d = some (va_rf (some (E.1.1 44))) := ⟨_, _, _, (show kt_get kt_flA "MeetingHouse$Parser" 312 = some ("MeetingHouse$Kind", "PAR", "LMeetingHouse$Kind;") from by decide +kernel), kx_sv_E.trans (kw_sv_en zen_44)⟩
theorem zs_X5_322 {E : zE} : ∃ r n d, kx_fl (zV E) "MeetingHouse$Parser" 322 = some (r, n, d) ∧ kx_sv (zV E) r n d = some (va_rf (some (E.1.1 46))) := ⟨_, _, _, (show kt_get kt_flA "MeetingHouse$Parser" 322 = some ("MeetingHouse$Kind", "IF", "LMeetingHouse$Kind;") from by decide +kernel), kx_sv_E.trans (kw_sv_en zen_46)⟩
theorem zs_X5_328 {E : zE} : ∃ r n d, kx_fl (zV E) "MeetingHouse$Parser" 328 = some (r, n, d) ∧ kx_sv (zV E) r n d = some (va_rf (some (E.1.1 48))) := ⟨_, _, _, (show kt_get kt_flA "MeetingHouse$Parser" 328 = some ("MeetingHouse$Kind", "CASE", "LMeetingHouse$Kind;") from by decide +kernel), kx_sv_E.trans (kw_sv_en zen_48)⟩
theorem zs_X5_334 {E : zE} : ∃ r n d, kx_fl (zV E) "MeetingHouse$Parser" 334 = some (r, n, d) ∧ kx_sv (zV E) r n d = some (va_rf (some (E.1.1 50))) := ⟨_, _, _, (show kt_get kt_flA "MeetingHouse$Parser" 334 = some ("MeetingHouse$Kind", "WHILE", "LMeetingHouse$Kind;") from by decide +kernel), kx_sv_E.trans (kw_sv_en zen_50)⟩
theorem zs_X5_340 {E : zE} : ∃ r n d, kx_fl (zV E) "MeetingHouse$Parser" 340 = some (r, n, d) ∧ kx_sv (zV E) r n d = some (va_rf (some (E.1.1 45))) := ⟨_, _, _, (show kt_get kt_flA "MeetingHouse$Parser" 340 = some ("MeetingHouse$Kind", "REPLICATOR", "LMeetingHouse$Kind;") from by decide +kernel), kx_sv_E.trans (kw_sv_en zen_45)⟩
theorem zs_X5_346 {E : zE} : ∃ r n d, kx_fl (zV E) "MeetingHouse$Parser" 346 = some (r, n, d) ∧ kx_sv (zV E) r n d = some (va_rf (some (E.1.1 47))) := ⟨_, _, _, (show kt_get kt_flA "MeetingHouse$Parser" 346 = some ("MeetingHouse$Kind", "CHOICE", "LMeetingHouse$Kind;") from by decide +kernel), kx_sv_E.trans (kw_sv_en zen_47)⟩
theorem zs_X5_349 {E : zE} : ∃ r n d, kx_fl (zV E) "MeetingHouse$Parser" 349 = some (r, n, d) ∧ kx_sv (zV E) r n d = some (va_rf (some (E.1.1 49))) := ⟨_, _, _, (show kt_get kt_flA "MeetingHouse$Parser" 349 = some ("MeetingHouse$Kind", "OPTION", "LMeetingHouse$Kind;") from by decide +kernel), kx_sv_E.trans (kw_sv_en zen_49)⟩
theorem zs_X5_355 {E : zE} : ∃ r n d, kx_fl (zV E) "MeetingHouse$Parser" 355 = some (r, n, d) ∧ kx_sv (zV E) r n d = some (va_rf (some (E.1.1 51))) := ⟨_, _, _, (show kt_get kt_flA "MeetingHouse$Parser" 355 = some ("MeetingHouse$Kind", "ALT", "LMeetingHouse$Kind;") from by decide +kernel), kx_sv_E.trans (kw_sv_en zen_51)⟩
theorem zs_X5_361 {E : zE} : ∃ r n d, kx_fl (zV E) "MeetingHouse$Parser" 361 = some (r, n, d) ∧ kx_sv (zV E) r n d = some (va_rf (some (E.1.1 52))) := ⟨_, _, _, (show kt_get kt_flA "MeetingHouse$Parser" 361 = some ("MeetingHouse$Kind", "GUARD", "LMeetingHouse$Kind;") from by decide +kernel), kx_sv_E.trans (kw_sv_en zen_52)⟩
theorem zs_X5_379 {E : zE} : ∃ r n d, kx_fl (zV E) "MeetingHouse$Parser" 379 = some (r, n, d) ∧ kx_sv (zV E) r n d = some (va_rf (some (E.1.1 41))) := ⟨_, _, _, (show kt_get kt_flA "MeetingHouse$Parser" 379 = some ("MeetingHouse$Kind", "VARIANT", "LMeetingHouse$Kind;") from by decide +kernel), kx_sv_E.trans (kw_sv_en zen_41)⟩
theorem zs_X5_382 {E : zE} : ∃ r n d, kx_fl (zV E) "MeetingHouse$Parser" 382 = some (r, n, d) ∧ kx_sv (zV E) r n d = some (va_rf (some (E.1.1 35))) := ⟨_, _, _, (show kt_get kt_flA "MeetingHouse$Parser" 382 = some ("MeetingHouse$Kind", "CALL", "LMeetingHouse$Kind;") from by decide +kernel), kx_sv_E.trans (kw_sv_en zen_35)⟩
theorem zs_X5_391 {E : zE} : ∃ r n d, kx_fl (zV E) "MeetingHouse$Parser" 391 = some (r, n, d) ∧ kx_sv (zV E) r n d = some (va_rf (some (E.1.1 36))) := ⟨_, _, _, (show kt_get kt_flA "MeetingHouse$Parser" 391 = some ("MeetingHouse$Kind", "ASSIGN", "LMeetingHouse$Kind;") from by decide +kernel), kx_sv_E.trans (kw_sv_en zen_36)⟩
theorem zs_X5_394 {E : zE} : ∃ r n d, kx_fl (zV E) "MeetingHouse$Parser" 394 = some (r, n, d) ∧ kx_sv (zV E) r n d = some (va_rf (some (E.1.1 37))) := ⟨_, _, _, (show kt_get kt_flA "MeetingHouse$Parser" 394 = some ("MeetingHouse$Kind", "OUTPUT", "LMeetingHouse$Kind;") from by decide +kernel), kx_sv_E.trans (kw_sv_en zen_37)⟩
theorem zs_X5_401 {E : zE} : ∃ r n d, kx_fl (zV E) "MeetingHouse$Parser" 401 = some (r, n, d) ∧ kx_sv (zV E) r n d = some (va_rf (some (E.1.1 38))) := ⟨_, _, _, (show kt_get kt_flA "MeetingHouse$Parser" 401 = some ("MeetingHouse$Kind", "DELAY", "LMeetingHouse$Kind;") from by decide +kernel), kx_sv_E.trans (kw_sv_en zen_38)⟩
theorem zs_X5_404 {E : zE} : ∃ r n d, kx_fl (zV E) "MeetingHouse$Parser" 404 = some (r, n, d) ∧ kx_sv (zV E) r n d = some (va_rf (some (E.1.1 39))) := ⟨_, _, _, (show kt_get kt_flA "MeetingHouse$Parser" 404 = some ("MeetingHouse$Kind", "CASE_INPUT", "LMeetingHouse$Kind;") from by decide +kernel), kx_sv_E.trans (kw_sv_en zen_39)⟩
theorem zs_X5_407 {E : zE} : ∃ r n d, kx_fl (zV E) "MeetingHouse$Parser" 407 = some (r, n, d) ∧ kx_sv (zV E) r n d = some (va_rf (some (E.1.1 40))) := ⟨_, _, _, (show kt_get kt_flA "MeetingHouse$Parser" 407 = some ("MeetingHouse$Kind", "INPUT", "LMeetingHouse$Kind;") from by decide +kernel), kx_sv_E.trans (kw_sv_en zen_40)⟩
theorem zs_X5_88 {E : zE} : ∃ r n d, kx_fl (zV E) "MeetingHouse$Parser" 88 = some (r, n, d) ∧ kx_sv (zV E) r n d = some (va_rf (some (E.1.1 7))) := ⟨_, _, _, (show kt_get kt_flA "MeetingHouse$Parser" 88 = some ("MeetingHouse$Sort", "LINE", "LMeetingHouse$Sort;") from by decide +kernel), kx_sv_E.trans (kw_sv_en zen_7)⟩
def zb_X5_endLine_p22 (E : zE) (L : Nat) (Q : kx_Rs → wS → Prop) (w : wS) : Prop := zw E (L - 20) kt_M195 [.ref (w_adr E.2.1 4 0)] w (wk0 (fun w1 => wle w w1 → Q (.inl none) w1) (fun e w => Q (.inr e) w))
theorem zt_X5_endLine_p22 {E : zE} {L : Nat} {Q : kx_Rs → wS → Prop} {w : wS} (hL : 20 ≤ L) (h : zb_X5_endLine_p22 E L Q  w) : kzE E L kt_M174 22 [(0, .ref (w_adr E.2.1 4 0))] [] w Q := by
  unfold zb_X5_endLine_p22 at h
  refine kz_aload_n (M := kt_M174) kX5_endLine_c1.2.2.1 rfl ?_
  refine kz_cv0 (M := kt_M174) (c := 4) (o := 0) (As := []) (rest := []) kX5_endLine_c1.2.2.2.1 wl_X5_85 wMv_195 rfl (.inl rfl) rfl (Nat.le_trans (Nat.le_of_ble_eq_true rfl) hL) (Nat.le_of_ble_eq_true rfl) (Nat.le_of_ble_eq_true rfl) h (fun w1 hle h => ?_) (fun _ _ _ h => kzx_no rfl h)
  have h := h hle
  exact kz_ret (M := kt_M174) kX5_endLine_c1.2.2.2.2.1 rfl h
def zb_X5_endLine_p0 (E : zE) (L : Nat) (Q : kx_Rs → wS → Prop) (w : wS) : Prop := (kx_inb (w_i w 4 0 3) (w_n w 1 0 2) = true ∧ (if w_r w 1 0 2 (w_i w 4 0 3).toNatClampNeg = some (E.1.1 7) then zb_X5_endLine_p22 E L Q w else zw E (L - 20) kt_M213 [.ref (w_adr E.2.1 4 0)] w (wk0 (fun w1 => wle w w1 → zb_X5_endLine_p22 E L Q w1) (fun e w => Q (.inr e) w))))
theorem zt_X5_endLine_p0 {E : zE} {L : Nat} {Q : kx_Rs → wS → Prop} {w : wS} (hL : 20 ≤ L) (h : zb_X5_endLine_p0 E L Q  w) : kzE E L kt_M174 0 [(0, .ref (w_adr E.2.1 4 0))] [] w Q := by
  unfold zb_X5_endLine_p0 at h
  refine kz_aload_n (M := kt_M174) kX5_endLine_c0.1 rfl ?_
  refine kz_gfc (M := kt_M174) (x := 4) (c := 4) (o := 0) kX5_endLine_c0.2.1 wf_X5_9 (.inl rfl) ?_
  refine kz_gfc (M := kt_M174) (x := 1258) (c := 1) (o := 0) kX5_endLine_c0.2.2.1 wf_X5_48 (.inl rfl) ?_
  refine kz_aload_n (M := kt_M174) kX5_endLine_c0.2.2.2.1 rfl ?_
  refine kz_gfi (M := kt_M174) (c := 4) (o := 0) kX5_endLine_c0.2.2.2.2.1 wf_X5_29 (.inl rfl) ?_
  refine kz_aald (M := kt_M174) (τ := 0) (c := 1) (o := 0) (k := 2) (a := (E.2.1 1258)) kX5_endLine_c0.2.2.2.2.2.1 ow_1_0_2 oa_1_0_2 ot_4 rfl h (fun h => ?_)
  refine kz_getsE (M := kt_M174) (v := va_rf (some (E.1.1 7))) kX5_endLine_c0.2.2.2.2.2.2.1 zs_X5_88 ?_
  refine kz_acmp_eq (M := kt_M174) (x := w_r w 1 0 2 (w_i w 4 0 3).toNatClampNeg) (y := some (E.1.1 7)) kX5_endLine_c0.2.2.2.2.2.2.2.1 (t := 22) rfl h (fun h => ?_) (fun h => ?_)
  · skip
    exact kz_weak [(0, .ref (w_adr E.2.1 4 0))] ⟨rfl, trivial⟩ rfl (zt_X5_endLine_p22 hL  h)
  · skip
    refine kz_aload_n (M := kt_M174) kX5_endLine_c1.1 rfl ?_
    refine kz_cv0 (M := kt_M174) (c := 4) (o := 0) (As := []) (rest := []) kX5_endLine_c1.2.1 wl_X5_82 wMv_213 rfl (.inl rfl) rfl (Nat.le_trans (Nat.le_of_ble_eq_true rfl) hL) (Nat.le_of_ble_eq_true rfl) (Nat.le_of_ble_eq_true rfl) h (fun w1 hle h => ?_) (fun _ _ _ h => kzx_no rfl h)
    have h := h hle
    exact kz_weak [(0, .ref (w_adr E.2.1 4 0))] ⟨rfl, trivial⟩ rfl (zt_X5_endLine_p22 hL  h)
def zb_X5_close_p0 (E : zE) (L : Nat) (Q : kx_Rs → wS → Prop) (x1 : Int32) (w : wS) : Prop := zw E (L - 21) kt_M210 [.ref (w_adr E.2.1 4 0), .int x1] w (wk0 (fun w1 => wle w w1 → zw E (L - 21) kt_M176 [.ref (w_adr E.2.1 4 0), .int 42] w1 (wk0 (fun w3 => wle w1 w3 → zw E (L - 20) kt_M174 [.ref (w_adr E.2.1 4 0)] w3 (wk0 (fun w5 => wle w3 w5 → Q (.inl none) w5) (fun e w => Q (.inr e) w))) (fun e w => Q (.inr e) w))) (fun e w => Q (.inr e) w))
theorem zt_X5_close_p0 {E : zE} {L : Nat} {Q : kx_Rs → wS → Prop} {x1 : Int32} {w : wS} (hL : 21 ≤ L) (h : zb_X5_close_p0 E L Q x1 w) : kzE E L kt_M170 0 [(0, .ref (w_adr E.2.1 4 0)), (1, .int x1)] [] w Q := by
  unfold zb_X5_close_p0 at h
  refine kz_aload_n (M := kt_M170) kX5_close_c0.1 rfl ?_
  refine kz_iload_n (M := kt_M170) kX5_close_c0.2.1 rfl ?_
  refine kz_cv0 (M := kt_M170) (c := 4) (o := 0) (As := [.int x1]) (rest := []) kX5_close_c0.2.2.1 wl_X5_113 wMv_210 rfl (.inl rfl) rfl (Nat.le_trans (Nat.le_of_ble_eq_true rfl) hL) (Nat.le_of_ble_eq_true rfl) (Nat.le_of_ble_eq_true rfl) h (fun w1 hle h => ?_) (fun _ _ _ h => kzx_no rfl h)
  have h := h hle
  refine kz_aload_n (M := kt_M170) kX5_close_c0.2.2.2.1 rfl ?_
  refine kz_bi (M := kt_M170) 42 kX5_close_c0.2.2.2.2.1 rfl ?_
  refine kz_cv0 (M := kt_M170) (c := 4) (o := 0) (As := [.int 42]) (rest := []) kX5_close_c0.2.2.2.2.2.1 wl_X5_100 wMv_176 rfl (.inl rfl) rfl (Nat.le_trans (Nat.le_of_ble_eq_true rfl) hL) (Nat.le_of_ble_eq_true rfl) (Nat.le_of_ble_eq_true rfl) h (fun w3 hle h => ?_) (fun _ _ _ h => kzx_no rfl h)
  have h := h hle
  refine kz_aload_n (M := kt_M170) kX5_close_c0.2.2.2.2.2.2.1 rfl ?_
  refine kz_cv0 (M := kt_M170) (c := 4) (o := 0) (As := []) (rest := []) kX5_close_c0.2.2.2.2.2.2.2.1 wl_X5_229 wMv_174 rfl (.inl rfl) rfl (Nat.le_trans (Nat.le_of_ble_eq_true rfl) hL) (Nat.le_of_ble_eq_true rfl) (Nat.le_of_ble_eq_true rfl) h (fun w5 hle h => ?_) (fun _ _ _ h => kzx_no rfl h)
  have h := h hle
  exact kz_ret (M := kt_M170) kX5_close_c1.1 rfl h
def zb_X5_names_p60 (E : zE) (L : Nat) (Q : kx_Rs → wS → Prop) (x1 : Option Nat) (x3 : Option Nat) (w : wS) : Prop := zw E (L - 21) kt_M176 [.ref (w_adr E.2.1 4 0), .int 13] w (wk0 (fun w1 => wle w w1 → (∃ p3, x1 = some p3 ∧ w_l w1 E.2.1 14 p3 ∧ (∃ p4, x3 = some p4 ∧ w_l (ws_p w1 14 p3 0 (some (E.1.1 25))) E.2.1 14 p4 ∧ zw E (L - 22) kt_M172 [.ref (w_adr E.2.1 4 0)] (ws_i (ws_p w1 14 p3 0 (some (E.1.1 25))) 14 p3 9 (w_i w1 14 p4 9)) (wkr (fun v6 w5 => wle (ws_i (ws_p w1 14 p3 0 (some (E.1.1 25))) 14 p3 9 (w_i w1 14 p4 9)) w5 → Q (.inl none) (ws_i (ws_p w5 14 p3 3 v6) 4 0 5 ((w_i w5 4 0 5) + 1))) (fun e w => Q (.inr e) w))))) (fun e w => Q (.inr e) w))
theorem zt_X5_names_p60 {E : zE} {L : Nat} {Q : kx_Rs → wS → Prop} {x1 : Option Nat} {x3 : Option Nat} {w : wS} (hL : 23 ≤ L) (h : zb_X5_names_p60 E L Q x1 x3 w) : kzE E L kt_M194 60 [(0, .ref (w_adr E.2.1 4 0)), (1, va_rf (x1)), (3, va_rf (x3))] [] w Q := by
  unfold zb_X5_names_p60 at h
  refine kz_aload_n (M := kt_M194) kX5_names_c3.2.2.2.2.2.2.2.1 rfl ?_
  refine kz_bi (M := kt_M194) 13 kX5_names_c4.1 rfl ?_
  refine kz_cv0 (M := kt_M194) (c := 4) (o := 0) (As := [.int 13]) (rest := []) kX5_names_c4.2.1 wl_X5_100 wMv_176 rfl (.inl rfl) rfl (Nat.le_trans (Nat.le_of_ble_eq_true rfl) hL) (Nat.le_of_ble_eq_true rfl) (Nat.le_of_ble_eq_true rfl) h (fun w1 hle h => ?_) (fun _ _ _ h => kzx_no rfl h)
  have h := h hle
  refine kz_aload_nv (M := kt_M194) (x := x1) kX5_names_c4.2.2.1 rfl ?_
  refine kz_getsE (M := kt_M194) (v := va_rf (some (E.1.1 25))) kX5_names_c4.2.2.2.1 zs_X5_246 ?_
  obtain ⟨p3, hxp3, hlp3, h⟩ := h
  refine kz_nz1 (x := x1) hxp3 ?_
  refine kz_pfp (M := kt_M194) (n := some (E.1.1 25)) (c := 14) (o := p3) kX5_names_c4.2.2.2.2.1 wq_X5_214 (.inr (by exact hlp3)) ?_
  refine kz_aload_nv (M := kt_M194) (x := x1) kX5_names_c4.2.2.2.2.2.1 rfl ?_
  refine kz_aload_nv (M := kt_M194) (x := x3) kX5_names_c4.2.2.2.2.2.2.1 rfl ?_
  obtain ⟨p4, hxp4, hlp4, h⟩ := h
  refine kz_nz0 (x := x3) hxp4 ?_
  refine kz_gfiR (M := kt_M194) (c := 14) (o := p4) (w_i w1 14 p4 9) kX5_names_c4.2.2.2.2.2.2.2.1 wf_X5_240 (.inr (by exact hlp4)) rd_i_p ?_
  refine kz_nz1 (x := x1) hxp3 ?_
  refine kz_pfi (M := kt_M194) (c := 14) (o := p3) kX5_names_c5.1 wq_X5_240 (.inr (by exact hlp3)) ?_
  refine kz_aload_nv (M := kt_M194) (x := x1) kX5_names_c5.2.1 rfl ?_
  refine kz_aload_n (M := kt_M194) kX5_names_c5.2.2.1 rfl ?_
  refine kz_cvr (M := kt_M194) (c := 4) (o := 0) (As := []) (rest := [va_rf (x1)]) kX5_names_c5.2.2.2.1 wl_X5_249 wMv_172 rfl (.inl rfl) rfl (Nat.le_trans (Nat.le_of_ble_eq_true rfl) hL) (Nat.le_of_ble_eq_true rfl) (by simp [kx_cat, w_cat, z_ci, z_cr, z_cl, z_cn]) h (fun v6 w5 hle h => ?_) (fun _ _ _ h => kzx_no rfl h)
  have h := h hle
  have hlp3 := w_l_le hlp3 hle
  have hlp4 := w_l_le hlp4 hle
  refine kz_nz1 (x := x1) hxp3 ?_
  refine kz_pfp (M := kt_M194) (n := v6) (c := 14) (o := p3) kX5_names_c5.2.2.2.2.1 wq_X5_162 (.inr (by exact hlp3)) ?_
  refine kz_aload_n (M := kt_M194) kX5_names_c5.2.2.2.2.2.1 rfl ?_
  refine kz_dup (M := kt_M194) kX5_names_c5.2.2.2.2.2.2.1 rfl ?_
  refine kz_gfiR (M := kt_M194) (c := 4) (o := 0) (w_i w5 4 0 5) kX5_names_c5.2.2.2.2.2.2.2.1 wf_X5_130 (.inl rfl) rd_i_p ?_
  refine kz_ic (M := kt_M194) 1 kX5_names_c6.1 rfl ?_
  refine kz_iadd (M := kt_M194) kX5_names_c6.2.1 ?_
  refine kz_pfi (M := kt_M194) (c := 4) (o := 0) kX5_names_c6.2.2.1 wq_X5_130 (.inl rfl) ?_
  exact kz_ret (M := kt_M194) kX5_names_c6.2.2.2.1 rfl h
def zb_X5_names_p49 (E : zE) (L : Nat) (Q : kx_Rs → wS → Prop) (x1 : Option Nat) (x3 : Option Nat) (w : wS) : Prop := (∃ p1, x1 = some p1 ∧ w_l w E.2.1 14 p1 ∧ (if (w_p w 14 p1 3) = none then zb_X5_names_p60 E L Q x1 x3 w else zw E (L - 20) kt_M213 [.ref (w_adr E.2.1 4 0)] w (wk0 (fun w2 => wle w w2 → zb_X5_names_p60 E L Q x1 x3 w2) (fun e w => Q (.inr e) w))))
theorem zt_X5_names_p49 {E : zE} {L : Nat} {Q : kx_Rs → wS → Prop} {x1 : Option Nat} {x3 : Option Nat} {w : wS} (hL : 23 ≤ L) (h : zb_X5_names_p49 E L Q x1 x3 w) : kzE E L kt_M194 49 [(0, .ref (w_adr E.2.1 4 0)), (1, va_rf (x1)), (3, va_rf (x3))] [] w Q := by
  unfold zb_X5_names_p49 at h
  refine kz_aload_nv (M := kt_M194) (x := x1) kX5_names_c3.2.2.1 rfl ?_
  obtain ⟨p1, hxp1, hlp1, h⟩ := h
  refine kz_nz0 (x := x1) hxp1 ?_
  refine kz_gfp (M := kt_M194) (c := 14) (o := p1) kX5_names_c3.2.2.2.1 wf_X5_162 (.inr (by exact hlp1)) ?_
  refine kz_ifnull (M := kt_M194) (x := w_p w 14 p1 3) kX5_names_c3.2.2.2.2.1 (t := 60) rfl h (fun h => ?_) (fun h => ?_)
  · skip
    exact kz_weak [(0, .ref (w_adr E.2.1 4 0)), (1, va_rf (x1)), (3, va_rf (x3))] ⟨rfl, ⟨rfl, ⟨rfl, trivial⟩⟩⟩ rfl (zt_X5_names_p60 hL  h)
  · skip
    refine kz_aload_n (M := kt_M194) kX5_names_c3.2.2.2.2.2.1 rfl ?_
    refine kz_cv0 (M := kt_M194) (c := 4) (o := 0) (As := []) (rest := []) kX5_names_c3.2.2.2.2.2.2.1 wl_X5_82 wMv_213 rfl (.inl rfl) rfl (Nat.le_trans (Nat.le_of_ble_eq_true rfl) hL) (Nat.le_of_ble_eq_true rfl) (Nat.le_of_ble_eq_true rfl) h (fun w2 hle h => ?_) (fun _ _ _ h => kzx_no rfl h)
    have h := h hle
    have hlp1 := w_l_le hlp1 hle
    exact kz_weak [(0, .ref (w_adr E.2.1 4 0)), (1, va_rf (x1)), (3, va_rf (x3))] ⟨rfl, ⟨rfl, ⟨rfl, trivial⟩⟩⟩ rfl (zt_X5_names_p60 hL  h)
def zb_X5_names_p0 (E : zE) (L : Nat) (Q : kx_Rs → wS → Prop) (x1 : Option Nat) (x2 : Option Nat) (w : wS) : Prop := (∃ p1, x1 = some p1 ∧ w_l w E.2.1 14 p1 ∧ zw E (L - 21) kt_M196 [.ref (w_adr E.2.1 4 0), va_rf (some (E.1.1 13))] (ws_p w 14 p1 0 x2) (wkr (fun v3 w2 => wle (ws_p w 14 p1 0 x2) w2 → zw E (L - 21) kt_M193 [.ref (w_adr E.2.1 4 0)] w2 (wk1 (fun v5 w4 => wle w2 w4 → (∃ p6, v3 = some p6 ∧ w_l w4 E.2.1 14 p6 ∧ zw E (L - 21) kt_M183 [.ref (w_adr E.2.1 4 0), .int 13] (ws_i w4 14 p6 9 v5) (wk1 (fun v8 w7 => wle (ws_i w4 14 p6 9 v5) w7 → (if ¬ v8 = 0 then zb_X5_names_p49 E L Q x1 v3 w7 else (if ¬ w_i w7 14 p1 13 = 0 then zb_X5_names_p49 E L Q x1 v3 w7 else zw E (L - 23) kt_M207 [.ref (w_adr E.2.1 4 0), va_rf (x1), va_rf (v3)] (ws_p w7 14 p1 4 v3) (wk0 (fun w9 => wle (ws_p w7 14 p1 4 v3) w9 → Q (.inl none) w9) (fun e w => Q (.inr e) w))))) (fun e w => Q (.inr e) w)))) (fun e w => Q (.inr e) w))) (fun e w => Q (.inr e) w)))
theorem zt_X5_names_p0 {E : zE} {L : Nat} {Q : kx_Rs → wS → Prop} {x1 : Option Nat} {x2 : Option Nat} {w : wS} (hL : 23 ≤ L) (h : zb_X5_names_p0 E L Q x1 x2 w) : kzE E L kt_M194 0 [(0, .ref (w_adr E.2.1 4 0)), (1, va_rf (x1)), (2, va_rf (x2))] [] w Q := by
  unfold zb_X5_names_p0 at h
  refine kz_aload_nv (M := kt_M194) (x := x1) kX5_names_c0.1 rfl ?_
  refine kz_aload_nv (M := kt_M194) (x := x2) kX5_names_c0.2.1 rfl ?_
  obtain ⟨p1, hxp1, hlp1, h⟩ := h
  refine kz_nz1 (x := x1) hxp1 ?_
  refine kz_pfp (M := kt_M194) (n := x2) (c := 14) (o := p1) kX5_names_c0.2.2.1 wq_X5_214 (.inr (by exact hlp1)) ?_
  refine kz_aload_n (M := kt_M194) kX5_names_c0.2.2.2.1 rfl ?_
  refine kz_getsE (M := kt_M194) (v := va_rf (some (E.1.1 13))) kX5_names_c0.2.2.2.2.1 zs_X5_232 ?_
  refine kz_cvr (M := kt_M194) (c := 4) (o := 0) (As := [va_rf (some (E.1.1 13))]) (rest := []) kX5_names_c0.2.2.2.2.2.1 wl_X5_152 wMv_196 rfl (.inl rfl) rfl (Nat.le_trans (Nat.le_of_ble_eq_true rfl) hL) (by simp [lg_sl, w_cat, z_ci, z_cr, z_cl, z_cn, kt_M196]) (Nat.le_of_ble_eq_true rfl) h (fun v3 w2 hle h => ?_) (fun _ _ _ h => kzx_no rfl h)
  have h := h hle
  have hlp1 := w_l_le hlp1 hle
  refine kz_stv_n (M := kt_M194) (x := v3) [(0, .ref (w_adr E.2.1 4 0)), (1, va_rf (x1))] kX5_names_c0.2.2.2.2.2.2.1 (Nat.le_of_ble_eq_true rfl) ⟨⟨rfl, rfl, .inl rfl⟩, ⟨⟨rfl, rfl, .inl rfl⟩, trivial⟩⟩ rfl ?_
  refine kz_aload_nv (M := kt_M194) (x := v3) kX5_names_c0.2.2.2.2.2.2.2.1 rfl ?_
  refine kz_aload_n (M := kt_M194) kX5_names_c1.1 rfl ?_
  refine kz_cv1 (M := kt_M194) (c := 4) (o := 0) (As := []) (rest := [va_rf (v3)]) kX5_names_c1.2.1 wl_X5_237 wMv_193 rfl (.inl rfl) rfl (Nat.le_trans (Nat.le_of_ble_eq_true rfl) hL) (Nat.le_of_ble_eq_true rfl) (by simp [kx_cat, w_cat, z_ci, z_cr, z_cl, z_cn]) h (fun v5 w4 hle h => ?_) (fun _ _ _ h => kzx_no rfl h)
  have h := h hle
  have hlp1 := w_l_le hlp1 hle
  obtain ⟨p6, hxp6, hlp6, h⟩ := h
  refine kz_nz1 (x := v3) hxp6 ?_
  refine kz_pfi (M := kt_M194) (c := 14) (o := p6) kX5_names_c1.2.2.1 wq_X5_240 (.inr (by exact hlp6)) ?_
  refine kz_aload_n (M := kt_M194) kX5_names_c1.2.2.2.1 rfl ?_
  refine kz_bi (M := kt_M194) 13 kX5_names_c1.2.2.2.2.1 rfl ?_
  refine kz_cv1 (M := kt_M194) (c := 4) (o := 0) (As := [.int 13]) (rest := []) kX5_names_c1.2.2.2.2.2.1 wl_X5_79 wMv_183 rfl (.inl rfl) rfl (Nat.le_trans (Nat.le_of_ble_eq_true rfl) hL) (Nat.le_of_ble_eq_true rfl) (Nat.le_of_ble_eq_true rfl) h (fun v8 w7 hle h => ?_) (fun _ _ _ h => kzx_no rfl h)
  have h := h hle
  have hlp1 := w_l_le hlp1 hle
  have hlp6 := w_l_le hlp6 hle
  refine kz_if_ne (M := kt_M194) kX5_names_c1.2.2.2.2.2.2.1 (t := 49) rfl h (fun h => ?_) (fun h => ?_)
  · skip
    exact kz_weak [(0, .ref (w_adr E.2.1 4 0)), (1, va_rf (x1)), (3, va_rf (v3))] ⟨rfl, ⟨rfl, ⟨rfl, trivial⟩⟩⟩ rfl (zt_X5_names_p49 hL  h)
  · skip
    refine kz_aload_nv (M := kt_M194) (x := x1) kX5_names_c1.2.2.2.2.2.2.2.1 rfl ?_
    refine kz_nz0 (x := x1) hxp1 ?_
    refine kz_gfi (M := kt_M194) (c := 14) (o := p1) kX5_names_c2.1 wf_X5_191 (.inr (by exact hlp1)) ?_
    refine kz_if_ne (M := kt_M194) kX5_names_c2.2.1 (t := 49) rfl h (fun h => ?_) (fun h => ?_)
    · skip
      exact kz_weak [(0, .ref (w_adr E.2.1 4 0)), (1, va_rf (x1)), (3, va_rf (v3))] ⟨rfl, ⟨rfl, ⟨rfl, trivial⟩⟩⟩ rfl (zt_X5_names_p49 hL  h)
    · skip
      refine kz_aload_nv (M := kt_M194) (x := x1) kX5_names_c2.2.2.1 rfl ?_
      refine kz_aload_nv (M := kt_M194) (x := v3) kX5_names_c2.2.2.2.1 rfl ?_
      refine kz_nz1 (x := x1) hxp1 ?_
      refine kz_pfp (M := kt_M194) (n := v3) (c := 14) (o := p1) kX5_names_c2.2.2.2.2.1 wq_X5_168 (.inr (by exact hlp1)) ?_
      refine kz_aload_n (M := kt_M194) kX5_names_c2.2.2.2.2.2.1 rfl ?_
      refine kz_aload_nv (M := kt_M194) (x := x1) kX5_names_c2.2.2.2.2.2.2.1 rfl ?_
      refine kz_aload_nv (M := kt_M194) (x := v3) kX5_names_c2.2.2.2.2.2.2.2.1 rfl ?_
      refine kz_cv0 (M := kt_M194) (c := 4) (o := 0) (As := [va_rf (x1), va_rf (v3)]) (rest := []) kX5_names_c3.1 wl_X5_242 wMv_207 rfl (.inl rfl) rfl (Nat.le_trans (Nat.le_of_ble_eq_true rfl) hL) (by simp [lg_sl, w_cat, z_ci, z_cr, z_cl, z_cn, kt_M207]) (Nat.le_of_ble_eq_true rfl) h (fun w9 hle h => ?_) (fun _ _ _ h => kzx_no rfl h)
      have h := h hle
      have hlp1 := w_l_le hlp1 hle
      have hlp6 := w_l_le hlp6 hle
      exact kz_ret (M := kt_M194) kX5_names_c3.2.1 rfl h
def zL_X5_rest_p12 (E : zE) (L : Nat) (Q : kx_Rs → wS → Prop) (x3 : Option Nat) (w : wS) : Prop := kzE E L kt_M207 12 [(0, .ref (w_adr E.2.1 4 0)), (3, va_rf (x3))] [] w Q
def zb_X5_rest_p12 (E : zE) (L : Nat) (Q : kx_Rs → wS → Prop) (x3 : Option Nat) (w : wS) : Prop := zw E (L - 21) kt_M183 [.ref (w_adr E.2.1 4 0), .int 40] w (wk1 (fun v2 w1 => wle w w1 → (if v2 = 0 then Q (.inl none) w1 else zw E (L - 20) kt_M195 [.ref (w_adr E.2.1 4 0)] w1 (wk0 (fun w3 => wle w1 w3 → zw E (L - 21) kt_M196 [.ref (w_adr E.2.1 4 0), va_rf (some (E.1.1 13))] w3 (wkr (fun v6 w5 => wle w3 w5 → zw E (L - 21) kt_M166 [va_rf (x3), va_rf (v6)] w5 (wkr (fun v8 w7 => wle w5 w7 → zw E (L - 21) kt_M193 [.ref (w_adr E.2.1 4 0)] w7 (wk1 (fun v10 w9 => wle w7 w9 → (∃ p11, v8 = some p11 ∧ w_l w9 E.2.1 14 p11 ∧ zL_X5_rest_p12 E L Q v8 (ws_i (ws_i w9 14 p11 9 v10) 4 0 5 ((w_i w9 4 0 5) + 1)))) (fun e w => Q (.inr e) w))) (fun e w => Q (.inr e) w))) (fun e w => Q (.inr e) w))) (fun e w => Q (.inr e) w)))) (fun e w => Q (.inr e) w))
theorem zt_X5_rest_p12 {E : zE} {L : Nat} {Q : kx_Rs → wS → Prop} {x3 : Option Nat} {w : wS} (hL : 21 ≤ L) (h : zb_X5_rest_p12 E L Q x3 w) : kzE E L kt_M207 12 [(0, .ref (w_adr E.2.1 4 0)), (3, va_rf (x3))] [] w Q := by
  unfold zb_X5_rest_p12 at h
  refine kz_aload_n (M := kt_M207) kX5_rest_c1.1 rfl ?_
  refine kz_bi (M := kt_M207) 40 kX5_rest_c1.2.1 rfl ?_
  refine kz_cv1 (M := kt_M207) (c := 4) (o := 0) (As := [.int 40]) (rest := []) kX5_rest_c1.2.2.1 wl_X5_79 wMv_183 rfl (.inl rfl) rfl (Nat.le_trans (Nat.le_of_ble_eq_true rfl) hL) (Nat.le_of_ble_eq_true rfl) (Nat.le_of_ble_eq_true rfl) h (fun v2 w1 hle h => ?_) (fun _ _ _ h => kzx_no rfl h)
  have h := h hle
  refine kz_if_eq (M := kt_M207) kX5_rest_c1.2.2.2.1 (t := 58) rfl h (fun h => ?_) (fun h => ?_)
  · skip
    exact kz_ret (M := kt_M207) kX5_rest_c3.2.2.2.2.2.2.2.1 rfl h
  · skip
    refine kz_aload_n (M := kt_M207) kX5_rest_c1.2.2.2.2.1 rfl ?_
    refine kz_cv0 (M := kt_M207) (c := 4) (o := 0) (As := []) (rest := []) kX5_rest_c1.2.2.2.2.2.1 wl_X5_85 wMv_195 rfl (.inl rfl) rfl (Nat.le_trans (Nat.le_of_ble_eq_true rfl) hL) (Nat.le_of_ble_eq_true rfl) (Nat.le_of_ble_eq_true rfl) h (fun w3 hle h => ?_) (fun _ _ _ h => kzx_no rfl h)
    have h := h hle
    refine kz_aload_nv (M := kt_M207) (x := x3) kX5_rest_c1.2.2.2.2.2.2.1 rfl ?_
    refine kz_aload_n (M := kt_M207) kX5_rest_c1.2.2.2.2.2.2.2.1 rfl ?_
    refine kz_getsE (M := kt_M207) (v := va_rf (some (E.1.1 13))) kX5_rest_c2.1 zs_X5_232 ?_
    refine kz_cvr (M := kt_M207) (c := 4) (o := 0) (As := [va_rf (some (E.1.1 13))]) (rest := [va_rf (x3)]) kX5_rest_c2.2.1 wl_X5_152 wMv_196 rfl (.inl rfl) rfl (Nat.le_trans (Nat.le_of_ble_eq_true rfl) hL) (by simp [lg_sl, w_cat, z_ci, z_cr, z_cl, z_cn, kt_M196]) (by simp [kx_cat, w_cat, z_ci, z_cr, z_cl, z_cn]) h (fun v6 w5 hle h => ?_) (fun _ _ _ h => kzx_no rfl h)
    have h := h hle
    refine kz_csr (M := kt_M207) (As := [va_rf (x3), va_rf (v6)]) (rest := []) kX5_rest_c2.2.2.1 wl_X5_158 wMs_166 rfl (Nat.le_trans (Nat.le_of_ble_eq_true rfl) hL) (by simp [lg_sl, w_cat, z_ci, z_cr, z_cl, z_cn, kt_M166]) (Nat.le_of_ble_eq_true rfl) h (fun v8 w7 hle h => ?_) (fun _ _ _ h => kzx_no rfl h)
    have h := h hle
    refine kz_stv_n (M := kt_M207) (x := v8) [(0, .ref (w_adr E.2.1 4 0))] kX5_rest_c2.2.2.2.1 (Nat.le_of_ble_eq_true rfl) ⟨⟨rfl, rfl, .inl rfl⟩, trivial⟩ rfl ?_
    refine kz_aload_nv (M := kt_M207) (x := v8) kX5_rest_c2.2.2.2.2.1 rfl ?_
    refine kz_aload_n (M := kt_M207) kX5_rest_c2.2.2.2.2.2.1 rfl ?_
    refine kz_cv1 (M := kt_M207) (c := 4) (o := 0) (As := []) (rest := [va_rf (v8)]) kX5_rest_c2.2.2.2.2.2.2.1 wl_X5_237 wMv_193 rfl (.inl rfl) rfl (Nat.le_trans (Nat.le_of_ble_eq_true rfl) hL) (Nat.le_of_ble_eq_true rfl) (by simp [kx_cat, w_cat, z_ci, z_cr, z_cl, z_cn]) h (fun v10 w9 hle h => ?_) (fun _ _ _ h => kzx_no rfl h)
    have h := h hle
    obtain ⟨p11, hxp11, hlp11, h⟩ := h
    refine kz_nz1 (x := v8) hxp11 ?_
    refine kz_pfi (M := kt_M207) (c := 14) (o := p11) kX5_rest_c2.2.2.2.2.2.2.2.1 wq_X5_240 (.inr (by exact hlp11)) ?_
    refine kz_aload_n (M := kt_M207) kX5_rest_c3.1 rfl ?_
    refine kz_dup (M := kt_M207) kX5_rest_c3.2.1 rfl ?_
    refine kz_gfiR (M := kt_M207) (c := 4) (o := 0) (w_i w9 4 0 5) kX5_rest_c3.2.2.1 wf_X5_130 (.inl rfl) (rd_i_i rfl) ?_
    refine kz_ic (M := kt_M207) 1 kX5_rest_c3.2.2.2.1 rfl ?_
    refine kz_iadd (M := kt_M207) kX5_rest_c3.2.2.2.2.1 ?_
    refine kz_pfi (M := kt_M207) (c := 4) (o := 0) kX5_rest_c3.2.2.2.2.2.1 wq_X5_130 (.inl rfl) ?_
    refine kz_goto (M := kt_M207) kX5_rest_c3.2.2.2.2.2.2.1 (t := 12) rfl ?_
    exact kz_weak [(0, .ref (w_adr E.2.1 4 0)), (3, va_rf (v8))] ⟨rfl, ⟨rfl, trivial⟩⟩ rfl h
def zb_X5_rest_p0 (E : zE) (L : Nat) (Q : kx_Rs → wS → Prop) (x1 : Option Nat) (x2 : Option Nat) (w : wS) : Prop := zL_X5_rest_p12 E L Q x2 (ws_i w 4 0 5 ((w_i w 4 0 5) + 1))
theorem zt_X5_rest_p0 {E : zE} {L : Nat} {Q : kx_Rs → wS → Prop} {x1 : Option Nat} {x2 : Option Nat} {w : wS} (hL : 21 ≤ L) (h : zb_X5_rest_p0 E L Q x1 x2 w) : kzE E L kt_M207 0 [(0, .ref (w_adr E.2.1 4 0)), (1, va_rf (x1)), (2, va_rf (x2))] [] w Q := by
  unfold zb_X5_rest_p0 at h
  refine kz_aload_nv (M := kt_M207) (x := x2) kX5_rest_c0.1 rfl ?_
  refine kz_stv_n (M := kt_M207) (x := x2) [(0, .ref (w_adr E.2.1 4 0))] kX5_rest_c0.2.1 (Nat.le_of_ble_eq_true rfl) ⟨⟨rfl, rfl, .inl rfl⟩, trivial⟩ rfl ?_
  refine kz_aload_n (M := kt_M207) kX5_rest_c0.2.2.1 rfl ?_
  refine kz_dup (M := kt_M207) kX5_rest_c0.2.2.2.1 rfl ?_
  refine kz_gfi (M := kt_M207) (c := 4) (o := 0) kX5_rest_c0.2.2.2.2.1 wf_X5_130 (.inl rfl) ?_
  refine kz_ic (M := kt_M207) 1 kX5_rest_c0.2.2.2.2.2.1 rfl ?_
  refine kz_iadd (M := kt_M207) kX5_rest_c0.2.2.2.2.2.2.1 ?_
  refine kz_pfi (M := kt_M207) (c := 4) (o := 0) kX5_rest_c0.2.2.2.2.2.2.2.1 wq_X5_130 (.inl rfl) ?_
  exact kz_weak [(0, .ref (w_adr E.2.1 4 0)), (3, va_rf (x2))] ⟨rfl, ⟨rfl, trivial⟩⟩ rfl h
def zb_X5_element_p0 (E : zE) (L : Nat) (Q : kx_Rs → wS → Prop) (w : wS) : Prop := zw E (L - 20) kt_M189 [.ref (w_adr E.2.1 4 0)] w (wk1 (fun v2 w1 => wle w w1 → zw E (L - 24) kt_M225 [.ref (w_adr E.2.1 3 0), va_rf (some (E.1.1 18)), .int (w_i w 4 0 3), .int v2] w1 (wkr (fun v4 w3 => wle w1 w3 → zw E (L - 21) kt_M193 [.ref (w_adr E.2.1 4 0)] w3 (wk1 (fun v6 w5 => wle w3 w5 → zw E (L - 22) kt_M182 [.ref (w_adr E.2.1 4 0), va_rf (v4), .int v6] w5 (wkr (fun v8 w7 => wle w5 w7 → Q (.inl (some (va_rf (v8)))) w7) (fun e w => Q (.inr e) w))) (fun e w => Q (.inr e) w))) (fun e w => Q (.inr e) w))) (fun e w => Q (.inr e) w))
theorem zt_X5_element_p0 {E : zE} {L : Nat} {Q : kx_Rs → wS → Prop} {w : wS} (hL : 24 ≤ L) (h : zb_X5_element_p0 E L Q  w) : kzE E L kt_M172 0 [(0, .ref (w_adr E.2.1 4 0))] [] w Q := by
  unfold zb_X5_element_p0 at h
  refine kz_aload_n (M := kt_M172) kX5_element_c0.1 rfl ?_
  refine kz_gfi (M := kt_M172) (c := 4) (o := 0) kX5_element_c0.2.1 wf_X5_29 (.inl rfl) ?_
  refine kz_sti_n (M := kt_M172) [(0, .ref (w_adr E.2.1 4 0))] kX5_element_c0.2.2.1 (Nat.le_of_ble_eq_true rfl) ⟨⟨rfl, rfl, .inr rfl⟩, trivial⟩ rfl ?_
  refine kz_aload_n (M := kt_M172) kX5_element_c0.2.2.2.1 rfl ?_
  refine kz_cv1 (M := kt_M172) (c := 4) (o := 0) (As := []) (rest := []) kX5_element_c0.2.2.2.2.1 wl_X5_33 wMv_189 rfl (.inl rfl) rfl (Nat.le_trans (Nat.le_of_ble_eq_true rfl) hL) (Nat.le_of_ble_eq_true rfl) (Nat.le_of_ble_eq_true rfl) h (fun v2 w1 hle h => ?_) (fun _ _ _ h => kzx_no rfl h)
  have h := h hle
  refine kz_sti_n (M := kt_M172) [(0, .ref (w_adr E.2.1 4 0)), (1, .int (w_i w 4 0 3))] kX5_element_c0.2.2.2.2.2.1 (Nat.le_of_ble_eq_true rfl) ⟨⟨rfl, rfl, .inl rfl⟩, ⟨⟨rfl, rfl, .inr rfl⟩, trivial⟩⟩ rfl ?_
  refine kz_aload_n (M := kt_M172) kX5_element_c0.2.2.2.2.2.2.1 rfl ?_
  refine kz_aload_n (M := kt_M172) kX5_element_c0.2.2.2.2.2.2.2.1 rfl ?_
  refine kz_gfc (M := kt_M172) (x := 12) (c := 4) (o := 0) kX5_element_c1.1 wf_X5_19 (.inl rfl) ?_
  refine kz_getsE (M := kt_M172) (v := va_rf (some (E.1.1 18))) kX5_element_c1.2.1 zs_X5_364 ?_
  refine kz_iload_n (M := kt_M172) kX5_element_c1.2.2.1 rfl ?_
  refine kz_iload_n (M := kt_M172) kX5_element_c1.2.2.2.1 rfl ?_
  refine kz_cvr (M := kt_M172) (c := 3) (o := 0) (As := [va_rf (some (E.1.1 18)), .int (w_i w 4 0 3), .int v2]) (rest := [.ref (w_adr E.2.1 4 0)]) kX5_element_c1.2.2.2.2.1 wl_X5_36 wMv_225 rfl (.inl rfl) rfl (Nat.le_trans (Nat.le_of_ble_eq_true rfl) hL) (by simp [lg_sl, w_cat, z_ci, z_cr, z_cl, z_cn, kt_M225]) (Nat.le_of_ble_eq_true rfl) h (fun v4 w3 hle h => ?_) (fun _ _ _ h => kzx_no rfl h)
  have h := h hle
  refine kz_aload_n (M := kt_M172) kX5_element_c1.2.2.2.2.2.1 rfl ?_
  refine kz_cv1 (M := kt_M172) (c := 4) (o := 0) (As := []) (rest := [va_rf (v4), .ref (w_adr E.2.1 4 0)]) kX5_element_c1.2.2.2.2.2.2.1 wl_X5_237 wMv_193 rfl (.inl rfl) rfl (Nat.le_trans (Nat.le_of_ble_eq_true rfl) hL) (Nat.le_of_ble_eq_true rfl) (by simp [kx_cat, w_cat, z_ci, z_cr, z_cl, z_cn]) h (fun v6 w5 hle h => ?_) (fun _ _ _ h => kzx_no rfl h)
  have h := h hle
  refine kz_cvr (M := kt_M172) (c := 4) (o := 0) (As := [va_rf (v4), .int v6]) (rest := []) kX5_element_c1.2.2.2.2.2.2.2.1 wl_X5_388 wMv_182 rfl (.inl rfl) rfl (Nat.le_trans (Nat.le_of_ble_eq_true rfl) hL) (by simp [lg_sl, w_cat, z_ci, z_cr, z_cl, z_cn, kt_M182]) (Nat.le_of_ble_eq_true rfl) h (fun v8 w7 hle h => ?_) (fun _ _ _ h => kzx_no rfl h)
  have h := h hle
  exact kz_areto (x := v8) (M := kt_M172) kX5_element_c2.1 rfl h
def zb_X5_list_p0 (E : zE) (L : Nat) (Q : kx_Rs → wS → Prop) (x1 : Option Nat) (w : wS) : Prop := zw E (L - 21) kt_M196 [.ref (w_adr E.2.1 4 0), va_rf (some (E.1.1 13))] w (wkr (fun v2 w1 => wle w w1 → (∃ p3, x1 = some p3 ∧ w_l w1 E.2.1 14 p3 ∧ zw E (L - 21) kt_M193 [.ref (w_adr E.2.1 4 0)] (ws_p w1 14 p3 4 v2) (wk1 (fun v5 w4 => wle (ws_p w1 14 p3 4 v2) w4 → (∃ p6, v2 = some p6 ∧ w_l w4 E.2.1 14 p6 ∧ zw E (L - 23) kt_M207 [.ref (w_adr E.2.1 4 0), va_rf (x1), va_rf (w_p w4 14 p3 4)] (ws_i w4 14 p6 9 v5) (wk0 (fun w7 => wle (ws_i w4 14 p6 9 v5) w7 → Q (.inl none) w7) (fun e w => Q (.inr e) w)))) (fun e w => Q (.inr e) w)))) (fun e w => Q (.inr e) w))
theorem zt_X5_list_p0 {E : zE} {L : Nat} {Q : kx_Rs → wS → Prop} {x1 : Option Nat} {w : wS} (hL : 23 ≤ L) (h : zb_X5_list_p0 E L Q x1 w) : kzE E L kt_M190 0 [(0, .ref (w_adr E.2.1 4 0)), (1, va_rf (x1))] [] w Q := by
  unfold zb_X5_list_p0 at h
  refine kz_aload_nv (M := kt_M190) (x := x1) kX5_list_c0.1 rfl ?_
  refine kz_aload_n (M := kt_M190) kX5_list_c0.2.1 rfl ?_
  refine kz_getsE (M := kt_M190) (v := va_rf (some (E.1.1 13))) kX5_list_c0.2.2.1 zs_X5_232 ?_
  refine kz_cvr (M := kt_M190) (c := 4) (o := 0) (As := [va_rf (some (E.1.1 13))]) (rest := [va_rf (x1)]) kX5_list_c0.2.2.2.1 wl_X5_152 wMv_196 rfl (.inl rfl) rfl (Nat.le_trans (Nat.le_of_ble_eq_true rfl) hL) (by simp [lg_sl, w_cat, z_ci, z_cr, z_cl, z_cn, kt_M196]) (by simp [kx_cat, w_cat, z_ci, z_cr, z_cl, z_cn]) h (fun v2 w1 hle h => ?_) (fun _ _ _ h => kzx_no rfl h)
  have h := h hle
  obtain ⟨p3, hxp3, hlp3, h⟩ := h
  refine kz_nz1 (x := x1) hxp3 ?_
  refine kz_pfp (M := kt_M190) (n := v2) (c := 14) (o := p3) kX5_list_c0.2.2.2.2.1 wq_X5_168 (.inr (by exact hlp3)) ?_
  refine kz_aload_nv (M := kt_M190) (x := x1) kX5_list_c0.2.2.2.2.2.1 rfl ?_
  refine kz_nz0 (x := x1) hxp3 ?_
  refine kz_gfpR (M := kt_M190) (c := 14) (o := p3) v2 kX5_list_c0.2.2.2.2.2.2.1 wf_X5_168 (.inr (by exact hlp3)) rd_p_e ?_
  refine kz_aload_n (M := kt_M190) kX5_list_c0.2.2.2.2.2.2.2.1 rfl ?_
  refine kz_cv1 (M := kt_M190) (c := 4) (o := 0) (As := []) (rest := [va_rf (v2)]) kX5_list_c1.1 wl_X5_237 wMv_193 rfl (.inl rfl) rfl (Nat.le_trans (Nat.le_of_ble_eq_true rfl) hL) (Nat.le_of_ble_eq_true rfl) (by simp [kx_cat, w_cat, z_ci, z_cr, z_cl, z_cn]) h (fun v5 w4 hle h => ?_) (fun _ _ _ h => kzx_no rfl h)
  have h := h hle
  have hlp3 := w_l_le hlp3 hle
  obtain ⟨p6, hxp6, hlp6, h⟩ := h
  refine kz_nz1 (x := v2) hxp6 ?_
  refine kz_pfi (M := kt_M190) (c := 14) (o := p6) kX5_list_c1.2.1 wq_X5_240 (.inr (by exact hlp6)) ?_
  refine kz_aload_n (M := kt_M190) kX5_list_c1.2.2.1 rfl ?_
  refine kz_aload_nv (M := kt_M190) (x := x1) kX5_list_c1.2.2.2.1 rfl ?_
  refine kz_aload_nv (M := kt_M190) (x := x1) kX5_list_c1.2.2.2.2.1 rfl ?_
  refine kz_nz0 (x := x1) hxp3 ?_
  refine kz_gfpR (M := kt_M190) (c := 14) (o := p3) (w_p w4 14 p3 4) kX5_list_c1.2.2.2.2.2.1 wf_X5_168 (.inr (by exact hlp3)) rd_p_i ?_
  refine kz_cv0 (M := kt_M190) (c := 4) (o := 0) (As := [va_rf (x1), va_rf (w_p w4 14 p3 4)]) (rest := []) kX5_list_c1.2.2.2.2.2.2.1 wl_X5_242 wMv_207 rfl (.inl rfl) rfl (Nat.le_trans (Nat.le_of_ble_eq_true rfl) hL) (by simp [lg_sl, w_cat, z_ci, z_cr, z_cl, z_cn, kt_M207]) (Nat.le_of_ble_eq_true rfl) h (fun w7 hle h => ?_) (fun _ _ _ h => kzx_no rfl h)
  have h := h hle
  have hlp3 := w_l_le hlp3 hle
  have hlp6 := w_l_le hlp6 hle
  exact kz_ret (M := kt_M190) kX5_list_c1.2.2.2.2.2.2.2.1 rfl h
def zb_X5_value_p0 (E : zE) (L : Nat) (Q : kx_Rs → wS → Prop) (x1 : Option Nat) (w : wS) : Prop := zw E (L - 20) kt_M195 [.ref (w_adr E.2.1 4 0)] w (wk0 (fun w1 => wle w w1 → (∃ p3, x1 = some p3 ∧ w_l w1 E.2.1 14 p3 ∧ zw E (L - 21) kt_M197 [.ref (w_adr E.2.1 4 0), va_rf (x1)] (ws_p w1 14 p3 0 (some (E.1.1 28))) (wk0 (fun w4 => wle (ws_p w1 14 p3 0 (some (E.1.1 28))) w4 → zw E (L - 21) kt_M212 [.ref (w_adr E.2.1 4 0)] w4 (wk1 (fun v7 w6 => wle w4 w6 → zw E (L - 21) kt_M193 [.ref (w_adr E.2.1 4 0)] (ws_i w6 14 p3 8 v7) (wk1 (fun v9 w8 => wle (ws_i w6 14 p3 8 v7) w8 → zw E (L - 21) kt_M176 [.ref (w_adr E.2.1 4 0), .int 13] (ws_i w8 14 p3 9 v9) (wk0 (fun w10 => wle (ws_i w8 14 p3 9 v9) w10 → zw E (L - 22) kt_M177 [.ref (w_adr E.2.1 4 0)] w10 (wkr (fun v13 w12 => wle w10 w12 → Q (.inl none) (ws_i (ws_p w12 14 p3 3 v13) 4 0 5 ((w_i w12 4 0 5) + 1))) (fun e w => Q (.inr e) w))) (fun e w => Q (.inr e) w))) (fun e w => Q (.inr e) w))) (fun e w => Q (.inr e) w))) (fun e w => Q (.inr e) w)))) (fun e w => Q (.inr e) w))
theorem zt_X5_value_p0 {E : zE} {L : Nat} {Q : kx_Rs → wS → Prop} {x1 : Option Nat} {w : wS} (hL : 22 ≤ L) (h : zb_X5_value_p0 E L Q x1 w) : kzE E L kt_M214 0 [(0, .ref (w_adr E.2.1 4 0)), (1, va_rf (x1))] [] w Q := by
  unfold zb_X5_value_p0 at h
  refine kz_aload_n (M := kt_M214) kX5_value_c0.1 rfl ?_
  refine kz_cv0 (M := kt_M214) (c := 4) (o := 0) (As := []) (rest := []) kX5_value_c0.2.1 wl_X5_85 wMv_195 rfl (.inl rfl) rfl (Nat.le_trans (Nat.le_of_ble_eq_true rfl) hL) (Nat.le_of_ble_eq_true rfl) (Nat.le_of_ble_eq_true rfl) h (fun w1 hle h => ?_) (fun _ _ _ h => kzx_no rfl h)
  have h := h hle
  refine kz_aload_nv (M := kt_M214) (x := x1) kX5_value_c0.2.2.1 rfl ?_
  refine kz_getsE (M := kt_M214) (v := va_rf (some (E.1.1 28))) kX5_value_c0.2.2.2.1 zs_X5_252 ?_
  obtain ⟨p3, hxp3, hlp3, h⟩ := h
  refine kz_nz1 (x := x1) hxp3 ?_
  refine kz_pfp (M := kt_M214) (n := some (E.1.1 28)) (c := 14) (o := p3) kX5_value_c0.2.2.2.2.1 wq_X5_214 (.inr (by exact hlp3)) ?_
  refine kz_aload_n (M := kt_M214) kX5_value_c0.2.2.2.2.2.1 rfl ?_
  refine kz_aload_nv (M := kt_M214) (x := x1) kX5_value_c0.2.2.2.2.2.2.1 rfl ?_
  refine kz_cv0 (M := kt_M214) (c := 4) (o := 0) (As := [va_rf (x1)]) (rest := []) kX5_value_c0.2.2.2.2.2.2.2.1 wl_X5_255 wMv_197 rfl (.inl rfl) rfl (Nat.le_trans (Nat.le_of_ble_eq_true rfl) hL) (by simp [lg_sl, w_cat, z_ci, z_cr, z_cl, z_cn, kt_M197]) (Nat.le_of_ble_eq_true rfl) h (fun w4 hle h => ?_) (fun _ _ _ h => kzx_no rfl h)
  have h := h hle
  have hlp3 := w_l_le hlp3 hle
  refine kz_aload_nv (M := kt_M214) (x := x1) kX5_value_c1.1 rfl ?_
  refine kz_aload_n (M := kt_M214) kX5_value_c1.2.1 rfl ?_
  refine kz_cv1 (M := kt_M214) (c := 4) (o := 0) (As := []) (rest := [va_rf (x1)]) kX5_value_c1.2.2.1 wl_X5_174 wMv_212 rfl (.inl rfl) rfl (Nat.le_trans (Nat.le_of_ble_eq_true rfl) hL) (Nat.le_of_ble_eq_true rfl) (by simp [kx_cat, w_cat, z_ci, z_cr, z_cl, z_cn]) h (fun v7 w6 hle h => ?_) (fun _ _ _ h => kzx_no rfl h)
  have h := h hle
  have hlp3 := w_l_le hlp3 hle
  refine kz_nz1 (x := x1) hxp3 ?_
  refine kz_pfi (M := kt_M214) (c := 14) (o := p3) kX5_value_c1.2.2.2.1 wq_X5_177 (.inr (by exact hlp3)) ?_
  refine kz_aload_nv (M := kt_M214) (x := x1) kX5_value_c1.2.2.2.2.1 rfl ?_
  refine kz_aload_n (M := kt_M214) kX5_value_c1.2.2.2.2.2.1 rfl ?_
  refine kz_cv1 (M := kt_M214) (c := 4) (o := 0) (As := []) (rest := [va_rf (x1)]) kX5_value_c1.2.2.2.2.2.2.1 wl_X5_237 wMv_193 rfl (.inl rfl) rfl (Nat.le_trans (Nat.le_of_ble_eq_true rfl) hL) (Nat.le_of_ble_eq_true rfl) (by simp [kx_cat, w_cat, z_ci, z_cr, z_cl, z_cn]) h (fun v9 w8 hle h => ?_) (fun _ _ _ h => kzx_no rfl h)
  have h := h hle
  have hlp3 := w_l_le hlp3 hle
  refine kz_nz1 (x := x1) hxp3 ?_
  refine kz_pfi (M := kt_M214) (c := 14) (o := p3) kX5_value_c1.2.2.2.2.2.2.2.1 wq_X5_240 (.inr (by exact hlp3)) ?_
  refine kz_aload_n (M := kt_M214) kX5_value_c2.1 rfl ?_
  refine kz_bi (M := kt_M214) 13 kX5_value_c2.2.1 rfl ?_
  refine kz_cv0 (M := kt_M214) (c := 4) (o := 0) (As := [.int 13]) (rest := []) kX5_value_c2.2.2.1 wl_X5_100 wMv_176 rfl (.inl rfl) rfl (Nat.le_trans (Nat.le_of_ble_eq_true rfl) hL) (Nat.le_of_ble_eq_true rfl) (Nat.le_of_ble_eq_true rfl) h (fun w10 hle h => ?_) (fun _ _ _ h => kzx_no rfl h)
  have h := h hle
  have hlp3 := w_l_le hlp3 hle
  refine kz_aload_nv (M := kt_M214) (x := x1) kX5_value_c2.2.2.2.1 rfl ?_
  refine kz_aload_n (M := kt_M214) kX5_value_c2.2.2.2.2.1 rfl ?_
  refine kz_cvr (M := kt_M214) (c := 4) (o := 0) (As := []) (rest := [va_rf (x1)]) kX5_value_c2.2.2.2.2.2.1 wl_X5_194 wMv_177 rfl (.inl rfl) rfl (Nat.le_trans (Nat.le_of_ble_eq_true rfl) hL) (Nat.le_of_ble_eq_true rfl) (by simp [kx_cat, w_cat, z_ci, z_cr, z_cl, z_cn]) h (fun v13 w12 hle h => ?_) (fun _ _ _ h => kzx_no rfl h)
  have h := h hle
  have hlp3 := w_l_le hlp3 hle
  refine kz_nz1 (x := x1) hxp3 ?_
  refine kz_pfp (M := kt_M214) (n := v13) (c := 14) (o := p3) kX5_value_c2.2.2.2.2.2.2.1 wq_X5_162 (.inr (by exact hlp3)) ?_
  refine kz_aload_n (M := kt_M214) kX5_value_c2.2.2.2.2.2.2.2.1 rfl ?_
  refine kz_dup (M := kt_M214) kX5_value_c3.1 rfl ?_
  refine kz_gfiR (M := kt_M214) (c := 4) (o := 0) (w_i w12 4 0 5) kX5_value_c3.2.1 wf_X5_130 (.inl rfl) rd_i_p ?_
  refine kz_ic (M := kt_M214) 1 kX5_value_c3.2.2.1 rfl ?_
  refine kz_iadd (M := kt_M214) kX5_value_c3.2.2.2.1 ?_
  refine kz_pfi (M := kt_M214) (c := 4) (o := 0) kX5_value_c3.2.2.2.2.1 wq_X5_130 (.inl rfl) ?_
  exact kz_ret (M := kt_M214) kX5_value_c3.2.2.2.2.2.1 rfl h
def zL_X5_protocol_p105 (E : zE) (L : Nat) (Q : kx_Rs → wS → Prop) (x1 : Option Nat) (x2 : Int32) (x3 : Option Nat) (w : wS) : Prop := kzE E L kt_M205 105 [(0, .ref (w_adr E.2.1 4 0)), (1, va_rf (x1)), (2, .int x2), (3, va_rf (x3))] [] w Q
def zb_X5_protocol_p179 (E : zE) (L : Nat) (Q : kx_Rs → wS → Prop) (x1 : Option Nat) (x2 : Int32) (x3 : Option Nat) (w : wS) : Prop := zw E (L - 20) kt_M174 [.ref (w_adr E.2.1 4 0)] w (wk0 (fun w1 => wle w w1 → zL_X5_protocol_p105 E L Q x1 x2 x3 w1) (fun e w => Q (.inr e) w))
theorem zt_X5_protocol_p179 {E : zE} {L : Nat} {Q : kx_Rs → wS → Prop} {x1 : Option Nat} {x2 : Int32} {x3 : Option Nat} {w : wS} (hL : 24 ≤ L) (h : zb_X5_protocol_p179 E L Q x1 x2 x3 w) : kzE E L kt_M205 179 [(0, .ref (w_adr E.2.1 4 0)), (1, va_rf (x1)), (2, .int x2), (3, va_rf (x3))] [] w Q := by
  unfold zb_X5_protocol_p179 at h
  refine kz_aload_n (M := kt_M205) kX5_protocol_c12.1 rfl ?_
  refine kz_cv0 (M := kt_M205) (c := 4) (o := 0) (As := []) (rest := []) kX5_protocol_c12.2.1 wl_X5_229 wMv_174 rfl (.inl rfl) rfl (Nat.le_trans (Nat.le_of_ble_eq_true rfl) hL) (Nat.le_of_ble_eq_true rfl) (Nat.le_of_ble_eq_true rfl) h (fun w1 hle h => ?_) (fun _ _ _ h => kzx_no rfl h)
  have h := h hle
  refine kz_goto (M := kt_M205) kX5_protocol_c12.2.2.1 (t := 105) rfl ?_
  exact kz_weak [(0, .ref (w_adr E.2.1 4 0)), (1, va_rf (x1)), (2, .int x2), (3, va_rf (x3))] ⟨rfl, ⟨rfl, ⟨rfl, ⟨rfl, trivial⟩⟩⟩⟩ rfl h
def zb_X5_protocol_p150 (E : zE) (L : Nat) (Q : kx_Rs → wS → Prop) (x1 : Option Nat) (x2 : Int32) (x3 : Option Nat) (w : wS) : Prop := zw E (L - 21) kt_M193 [.ref (w_adr E.2.1 4 0)] w (wk1 (fun v2 w1 => wle w w1 → (∃ p3, x3 = some p3 ∧ w_l w1 E.2.1 14 p3 ∧ zw E (L - 21) kt_M183 [.ref (w_adr E.2.1 4 0), .int 41] (ws_i w1 14 p3 9 v2) (wk1 (fun v5 w4 => wle (ws_i w1 14 p3 9 v2) w4 → (if v5 = 0 then zb_X5_protocol_p179 E L Q x1 x2 x3 w4 else zw E (L - 20) kt_M195 [.ref (w_adr E.2.1 4 0)] w4 (wk0 (fun w6 => wle w4 w6 → zw E (L - 24) kt_M200 [.ref (w_adr E.2.1 4 0)] w6 (wkr (fun v9 w8 => wle w6 w8 → zb_X5_protocol_p179 E L Q x1 x2 x3 (ws_p w8 14 p3 4 v9)) (fun e w => Q (.inr e) w))) (fun e w => Q (.inr e) w)))) (fun e w => Q (.inr e) w)))) (fun e w => Q (.inr e) w))
theorem zt_X5_protocol_p150 {E : zE} {L : Nat} {Q : kx_Rs → wS → Prop} {x1 : Option Nat} {x2 : Int32} {x3 : Option Nat} {w : wS} (hL : 24 ≤ L) (h : zb_X5_protocol_p150 E L Q x1 x2 x3 w) : kzE E L kt_M205 150 [(0, .ref (w_adr E.2.1 4 0)), (1, va_rf (x1)), (2, .int x2), (3, va_rf (x3))] [] w Q := by
  unfold zb_X5_protocol_p150 at h
  refine kz_aload_nv (M := kt_M205) (x := x3) kX5_protocol_c10.2.2.1 rfl ?_
  refine kz_aload_n (M := kt_M205) kX5_protocol_c10.2.2.2.1 rfl ?_
  refine kz_cv1 (M := kt_M205) (c := 4) (o := 0) (As := []) (rest := [va_rf (x3)]) kX5_protocol_c10.2.2.2.2.1 wl_X5_237 wMv_193 rfl (.inl rfl) rfl (Nat.le_trans (Nat.le_of_ble_eq_true rfl) hL) (Nat.le_of_ble_eq_true rfl) (by simp [kx_cat, w_cat, z_ci, z_cr, z_cl, z_cn]) h (fun v2 w1 hle h => ?_) (fun _ _ _ h => kzx_no rfl h)
  have h := h hle
  obtain ⟨p3, hxp3, hlp3, h⟩ := h
  refine kz_nz1 (x := x3) hxp3 ?_
  refine kz_pfi (M := kt_M205) (c := 14) (o := p3) kX5_protocol_c10.2.2.2.2.2.1 wq_X5_240 (.inr (by exact hlp3)) ?_
  refine kz_aload_n (M := kt_M205) kX5_protocol_c10.2.2.2.2.2.2.1 rfl ?_
  refine kz_bi (M := kt_M205) 41 kX5_protocol_c10.2.2.2.2.2.2.2.1 rfl ?_
  refine kz_cv1 (M := kt_M205) (c := 4) (o := 0) (As := [.int 41]) (rest := []) kX5_protocol_c11.1 wl_X5_79 wMv_183 rfl (.inl rfl) rfl (Nat.le_trans (Nat.le_of_ble_eq_true rfl) hL) (Nat.le_of_ble_eq_true rfl) (Nat.le_of_ble_eq_true rfl) h (fun v5 w4 hle h => ?_) (fun _ _ _ h => kzx_no rfl h)
  have h := h hle
  have hlp3 := w_l_le hlp3 hle
  refine kz_if_eq (M := kt_M205) kX5_protocol_c11.2.1 (t := 179) rfl h (fun h => ?_) (fun h => ?_)
  · skip
    exact kz_weak [(0, .ref (w_adr E.2.1 4 0)), (1, va_rf (x1)), (2, .int x2), (3, va_rf (x3))] ⟨rfl, ⟨rfl, ⟨rfl, ⟨rfl, trivial⟩⟩⟩⟩ rfl (zt_X5_protocol_p179 hL  h)
  · skip
    refine kz_aload_n (M := kt_M205) kX5_protocol_c11.2.2.1 rfl ?_
    refine kz_cv0 (M := kt_M205) (c := 4) (o := 0) (As := []) (rest := []) kX5_protocol_c11.2.2.2.1 wl_X5_85 wMv_195 rfl (.inl rfl) rfl (Nat.le_trans (Nat.le_of_ble_eq_true rfl) hL) (Nat.le_of_ble_eq_true rfl) (Nat.le_of_ble_eq_true rfl) h (fun w6 hle h => ?_) (fun _ _ _ h => kzx_no rfl h)
    have h := h hle
    have hlp3 := w_l_le hlp3 hle
    refine kz_aload_nv (M := kt_M205) (x := x3) kX5_protocol_c11.2.2.2.2.1 rfl ?_
    refine kz_aload_n (M := kt_M205) kX5_protocol_c11.2.2.2.2.2.1 rfl ?_
    refine kz_cvr (M := kt_M205) (c := 4) (o := 0) (As := []) (rest := [va_rf (x3)]) kX5_protocol_c11.2.2.2.2.2.2.1 wl_X5_264 wMv_200 rfl (.inl rfl) rfl (Nat.le_trans (Nat.le_of_ble_eq_true rfl) hL) (Nat.le_of_ble_eq_true rfl) (by simp [kx_cat, w_cat, z_ci, z_cr, z_cl, z_cn]) h (fun v9 w8 hle h => ?_) (fun _ _ _ h => kzx_no rfl h)
    have h := h hle
    have hlp3 := w_l_le hlp3 hle
    refine kz_nz1 (x := x3) hxp3 ?_
    refine kz_pfp (M := kt_M205) (n := v9) (c := 14) (o := p3) kX5_protocol_c11.2.2.2.2.2.2.2.1 wq_X5_168 (.inr (by exact hlp3)) ?_
    exact kz_weak [(0, .ref (w_adr E.2.1 4 0)), (1, va_rf (x1)), (2, .int x2), (3, va_rf (x3))] ⟨rfl, ⟨rfl, ⟨rfl, ⟨rfl, trivial⟩⟩⟩⟩ rfl (zt_X5_protocol_p179 hL  h)
def zb_X5_protocol_p105 (E : zE) (L : Nat) (Q : kx_Rs → wS → Prop) (x1 : Option Nat) (x2 : Int32) (x3 : Option Nat) (w : wS) : Prop := zw E (L - 21) kt_M192 [.ref (w_adr E.2.1 4 0), .int (x2 + 2)] w (wk1 (fun v2 w1 => wle w w1 → (if v2 = 0 then zw E (L - 21) kt_M170 [.ref (w_adr E.2.1 4 0), .int x2] w1 (wk0 (fun w3 => wle w1 w3 → Q (.inl none) w3) (fun e w => Q (.inr e) w)) else zw E (L - 20) kt_M184 [.ref (w_adr E.2.1 4 0)] w1 (wk1 (fun v6 w5 => wle w1 w5 → zw E (L - 22) kt_M211 [.ref (w_adr E.2.1 4 0), .int (x2 + 2), .int v6] w5 (wk0 (fun w7 => wle w5 w7 → zw E (L - 21) kt_M196 [.ref (w_adr E.2.1 4 0), va_rf (some (E.1.1 32))] w7 (wkr (fun v10 w9 => wle w7 w9 → zw E (L - 21) kt_M166 [va_rf (x3), va_rf (v10)] w9 (wkr (fun v12 w11 => wle w9 w11 → (∃ p13, x1 = some p13 ∧ w_l w11 E.2.1 14 p13 ∧ (if ¬ (w_p w11 14 p13 4) = none then zb_X5_protocol_p150 E L Q x1 x2 v12 w11 else zb_X5_protocol_p150 E L Q x1 x2 v12 (ws_p w11 14 p13 4 v12)))) (fun e w => Q (.inr e) w))) (fun e w => Q (.inr e) w))) (fun e w => Q (.inr e) w))) (fun e w => Q (.inr e) w)))) (fun e w => Q (.inr e) w))
theorem zt_X5_protocol_p105 {E : zE} {L : Nat} {Q : kx_Rs → wS → Prop} {x1 : Option Nat} {x2 : Int32} {x3 : Option Nat} {w : wS} (hL : 24 ≤ L) (h : zb_X5_protocol_p105 E L Q x1 x2 x3 w) : kzE E L kt_M205 105 [(0, .ref (w_adr E.2.1 4 0)), (1, va_rf (x1)), (2, .int x2), (3, va_rf (x3))] [] w Q := by
  unfold zb_X5_protocol_p105 at h
  refine kz_aload_n (M := kt_M205) kX5_protocol_c7.2.1 rfl ?_
  refine kz_iload_n (M := kt_M205) kX5_protocol_c7.2.2.1 rfl ?_
  refine kz_ic (M := kt_M205) 2 kX5_protocol_c7.2.2.2.1 rfl ?_
  refine kz_iadd (M := kt_M205) kX5_protocol_c7.2.2.2.2.1 ?_
  refine kz_cv1 (M := kt_M205) (c := 4) (o := 0) (As := [.int (x2 + 2)]) (rest := []) kX5_protocol_c7.2.2.2.2.2.1 wl_X5_110 wMv_192 rfl (.inl rfl) rfl (Nat.le_trans (Nat.le_of_ble_eq_true rfl) hL) (Nat.le_of_ble_eq_true rfl) (Nat.le_of_ble_eq_true rfl) h (fun v2 w1 hle h => ?_) (fun _ _ _ h => kzx_no rfl h)
  have h := h hle
  refine kz_if_eq (M := kt_M205) kX5_protocol_c7.2.2.2.2.2.2.1 (t := 186) rfl h (fun h => ?_) (fun h => ?_)
  · skip
    refine kz_aload_n (M := kt_M205) kX5_protocol_c12.2.2.2.1 rfl ?_
    refine kz_iload_n (M := kt_M205) kX5_protocol_c12.2.2.2.2.1 rfl ?_
    refine kz_cv0 (M := kt_M205) (c := 4) (o := 0) (As := [.int x2]) (rest := []) kX5_protocol_c12.2.2.2.2.2.1 wl_X5_273 wMv_170 rfl (.inl rfl) rfl (Nat.le_trans (Nat.le_of_ble_eq_true rfl) hL) (Nat.le_of_ble_eq_true rfl) (Nat.le_of_ble_eq_true rfl) h (fun w3 hle h => ?_) (fun _ _ _ h => kzx_no rfl h)
    have h := h hle
    exact kz_ret (M := kt_M205) kX5_protocol_c12.2.2.2.2.2.2.1 rfl h
  · skip
    refine kz_aload_n (M := kt_M205) kX5_protocol_c7.2.2.2.2.2.2.2.1 rfl ?_
    refine kz_iload_n (M := kt_M205) kX5_protocol_c8.1 rfl ?_
    refine kz_ic (M := kt_M205) 2 kX5_protocol_c8.2.1 rfl ?_
    refine kz_iadd (M := kt_M205) kX5_protocol_c8.2.2.1 ?_
    refine kz_aload_n (M := kt_M205) kX5_protocol_c8.2.2.2.1 rfl ?_
    refine kz_cv1 (M := kt_M205) (c := 4) (o := 0) (As := []) (rest := [.int (x2 + 2), .ref (w_adr E.2.1 4 0)]) kX5_protocol_c8.2.2.2.2.1 wl_X5_91 wMv_184 rfl (.inl rfl) rfl (Nat.le_trans (Nat.le_of_ble_eq_true rfl) hL) (Nat.le_of_ble_eq_true rfl) (Nat.le_of_ble_eq_true rfl) h (fun v6 w5 hle h => ?_) (fun _ _ _ h => kzx_no rfl h)
    have h := h hle
    refine kz_cv0 (M := kt_M205) (c := 4) (o := 0) (As := [.int (x2 + 2), .int v6]) (rest := []) kX5_protocol_c8.2.2.2.2.2.1 wl_X5_143 wMv_211 rfl (.inl rfl) rfl (Nat.le_trans (Nat.le_of_ble_eq_true rfl) hL) (Nat.le_of_ble_eq_true rfl) (Nat.le_of_ble_eq_true rfl) h (fun w7 hle h => ?_) (fun _ _ _ h => kzx_no rfl h)
    have h := h hle
    refine kz_aload_nv (M := kt_M205) (x := x3) kX5_protocol_c8.2.2.2.2.2.2.1 rfl ?_
    refine kz_aload_n (M := kt_M205) kX5_protocol_c8.2.2.2.2.2.2.2.1 rfl ?_
    refine kz_getsE (M := kt_M205) (v := va_rf (some (E.1.1 32))) kX5_protocol_c9.1 zs_X5_270 ?_
    refine kz_cvr (M := kt_M205) (c := 4) (o := 0) (As := [va_rf (some (E.1.1 32))]) (rest := [va_rf (x3)]) kX5_protocol_c9.2.1 wl_X5_152 wMv_196 rfl (.inl rfl) rfl (Nat.le_trans (Nat.le_of_ble_eq_true rfl) hL) (by simp [lg_sl, w_cat, z_ci, z_cr, z_cl, z_cn, kt_M196]) (by simp [kx_cat, w_cat, z_ci, z_cr, z_cl, z_cn]) h (fun v10 w9 hle h => ?_) (fun _ _ _ h => kzx_no rfl h)
    have h := h hle
    refine kz_csr (M := kt_M205) (As := [va_rf (x3), va_rf (v10)]) (rest := []) kX5_protocol_c9.2.2.1 wl_X5_158 wMs_166 rfl (Nat.le_trans (Nat.le_of_ble_eq_true rfl) hL) (by simp [lg_sl, w_cat, z_ci, z_cr, z_cl, z_cn, kt_M166]) (Nat.le_of_ble_eq_true rfl) h (fun v12 w11 hle h => ?_) (fun _ _ _ h => kzx_no rfl h)
    have h := h hle
    refine kz_stv_n (M := kt_M205) (x := v12) [(0, .ref (w_adr E.2.1 4 0)), (1, va_rf (x1)), (2, .int x2)] kX5_protocol_c9.2.2.2.1 (Nat.le_of_ble_eq_true rfl) ⟨⟨rfl, rfl, .inl rfl⟩, ⟨⟨rfl, rfl, .inl rfl⟩, ⟨⟨rfl, rfl, .inr rfl⟩, trivial⟩⟩⟩ rfl ?_
    refine kz_aload_nv (M := kt_M205) (x := x1) kX5_protocol_c9.2.2.2.2.1 rfl ?_
    obtain ⟨p13, hxp13, hlp13, h⟩ := h
    refine kz_nz0 (x := x1) hxp13 ?_
    refine kz_gfp (M := kt_M205) (c := 14) (o := p13) kX5_protocol_c9.2.2.2.2.2.1 wf_X5_168 (.inr (by exact hlp13)) ?_
    refine kz_ifnonnull (M := kt_M205) (x := w_p w11 14 p13 4) kX5_protocol_c9.2.2.2.2.2.2.1 (t := 150) rfl h (fun h => ?_) (fun h => ?_)
    · skip
      exact kz_weak [(0, .ref (w_adr E.2.1 4 0)), (1, va_rf (x1)), (2, .int x2), (3, va_rf (v12))] ⟨rfl, ⟨rfl, ⟨rfl, ⟨rfl, trivial⟩⟩⟩⟩ rfl (zt_X5_protocol_p150 hL  h)
    · skip
      refine kz_aload_nv (M := kt_M205) (x := x1) kX5_protocol_c9.2.2.2.2.2.2.2.1 rfl ?_
      refine kz_aload_nv (M := kt_M205) (x := v12) kX5_protocol_c10.1 rfl ?_
      refine kz_nz1 (x := x1) hxp13 ?_
      refine kz_pfp (M := kt_M205) (n := v12) (c := 14) (o := p13) kX5_protocol_c10.2.1 wq_X5_168 (.inr (by exact hlp13)) ?_
      exact kz_weak [(0, .ref (w_adr E.2.1 4 0)), (1, va_rf (x1)), (2, .int x2), (3, va_rf (v12))] ⟨rfl, ⟨rfl, ⟨rfl, ⟨rfl, trivial⟩⟩⟩⟩ rfl (zt_X5_protocol_p150 hL  h)
def zb_X5_protocol_p0 (E : zE) (L : Nat) (Q : kx_Rs → wS → Prop) (x1 : Option Nat) (x2 : Int32) (w : wS) : Prop := zw E (L - 20) kt_M195 [.ref (w_adr E.2.1 4 0)] w (wk0 (fun w1 => wle w w1 → zw E (L - 21) kt_M193 [.ref (w_adr E.2.1 4 0)] w1 (wk1 (fun v4 w3 => wle w1 w3 → (∃ p5, x1 = some p5 ∧ w_l w3 E.2.1 14 p5 ∧ zw E (L - 21) kt_M183 [.ref (w_adr E.2.1 4 0), .int 13] (ws_i (ws_i w3 14 p5 9 v4) 4 0 5 ((w_i w3 4 0 5) + 1)) (wk1 (fun v7 w6 => wle (ws_i (ws_i w3 14 p5 9 v4) 4 0 5 ((w_i w3 4 0 5) + 1)) w6 → (if v7 = 0 then zw E (L - 20) kt_M174 [.ref (w_adr E.2.1 4 0)] (ws_p w6 14 p5 0 (some (E.1.1 31))) (wk0 (fun w8 => wle (ws_p w6 14 p5 0 (some (E.1.1 31))) w8 → zw E (L - 21) kt_M183 [.ref (w_adr E.2.1 4 0), .int 5] w8 (wk1 (fun v11 w10 => wle w8 w10 → zw E (L - 22) kt_M211 [.ref (w_adr E.2.1 4 0), .int (x2 + 1), .int v11] w10 (wk0 (fun w12 => wle w10 w12 → zw E (L - 20) kt_M195 [.ref (w_adr E.2.1 4 0)] w12 (wk0 (fun w14 => wle w12 w14 → zw E (L - 20) kt_M174 [.ref (w_adr E.2.1 4 0)] w14 (wk0 (fun w16 => wle w14 w16 → zw E (L - 20) kt_M184 [.ref (w_adr E.2.1 4 0)] w16 (wk1 (fun v19 w18 => wle w16 w18 → zw E (L - 22) kt_M211 [.ref (w_adr E.2.1 4 0), .int (x2 + 2), .int v19] w18 (wk0 (fun w20 => wle w18 w20 → zL_X5_protocol_p105 E L Q x1 x2 none w20) (fun e w => Q (.inr e) w))) (fun e w => Q (.inr e) w))) (fun e w => Q (.inr e) w))) (fun e w => Q (.inr e) w))) (fun e w => Q (.inr e) w))) (fun e w => Q (.inr e) w))) (fun e w => Q (.inr e) w)) else zw E (L - 20) kt_M195 [.ref (w_adr E.2.1 4 0)] (ws_p w6 14 p5 0 (some (E.1.1 29))) (wk0 (fun w22 => wle (ws_p w6 14 p5 0 (some (E.1.1 29))) w22 → zw E (L - 24) kt_M200 [.ref (w_adr E.2.1 4 0)] w22 (wkr (fun v25 w24 => wle w22 w24 → zw E (L - 21) kt_M176 [.ref (w_adr E.2.1 4 0), .int 42] (ws_p w24 14 p5 4 v25) (wk0 (fun w26 => wle (ws_p w24 14 p5 4 v25) w26 → zw E (L - 20) kt_M174 [.ref (w_adr E.2.1 4 0)] w26 (wk0 (fun w28 => wle w26 w28 → Q (.inl none) w28) (fun e w => Q (.inr e) w))) (fun e w => Q (.inr e) w))) (fun e w => Q (.inr e) w))) (fun e w => Q (.inr e) w)))) (fun e w => Q (.inr e) w)))) (fun e w => Q (.inr e) w))) (fun e w => Q (.inr e) w))
theorem zt_X5_protocol_p0 {E : zE} {L : Nat} {Q : kx_Rs → wS → Prop} {x1 : Option Nat} {x2 : Int32} {w : wS} (hL : 24 ≤ L) (h : zb_X5_protocol_p0 E L Q x1 x2 w) : kzE E L kt_M205 0 [(0, .ref (w_adr E.2.1 4 0)), (1, va_rf (x1)), (2, .int x2)] [] w Q := by
  unfold zb_X5_protocol_p0 at h
  refine kz_aload_n (M := kt_M205) kX5_protocol_c0.1 rfl ?_
  refine kz_cv0 (M := kt_M205) (c := 4) (o := 0) (As := []) (rest := []) kX5_protocol_c0.2.1 wl_X5_85 wMv_195 rfl (.inl rfl) rfl (Nat.le_trans (Nat.le_of_ble_eq_true rfl) hL) (Nat.le_of_ble_eq_true rfl) (Nat.le_of_ble_eq_true rfl) h (fun w1 hle h => ?_) (fun _ _ _ h => kzx_no rfl h)
  have h := h hle
  refine kz_aload_nv (M := kt_M205) (x := x1) kX5_protocol_c0.2.2.1 rfl ?_
  refine kz_aload_n (M := kt_M205) kX5_protocol_c0.2.2.2.1 rfl ?_
  refine kz_cv1 (M := kt_M205) (c := 4) (o := 0) (As := []) (rest := [va_rf (x1)]) kX5_protocol_c0.2.2.2.2.1 wl_X5_237 wMv_193 rfl (.inl rfl) rfl (Nat.le_trans (Nat.le_of_ble_eq_true rfl) hL) (Nat.le_of_ble_eq_true rfl) (by simp [kx_cat, w_cat, z_ci, z_cr, z_cl, z_cn]) h (fun v4 w3 hle h => ?_) (fun _ _ _ h => kzx_no rfl h)
  have h := h hle
  obtain ⟨p5, hxp5, hlp5, h⟩ := h
  refine kz_nz1 (x := x1) hxp5 ?_
  refine kz_pfi (M := kt_M205) (c := 14) (o := p5) kX5_protocol_c0.2.2.2.2.2.1 wq_X5_240 (.inr (by exact hlp5)) ?_
  refine kz_aload_n (M := kt_M205) kX5_protocol_c0.2.2.2.2.2.2.1 rfl ?_
  refine kz_dup (M := kt_M205) kX5_protocol_c0.2.2.2.2.2.2.2.1 rfl ?_
  refine kz_gfiR (M := kt_M205) (c := 4) (o := 0) (w_i w3 4 0 5) kX5_protocol_c1.1 wf_X5_130 (.inl rfl) (rd_i_i rfl) ?_
  refine kz_ic (M := kt_M205) 1 kX5_protocol_c1.2.1 rfl ?_
  refine kz_iadd (M := kt_M205) kX5_protocol_c1.2.2.1 ?_
  refine kz_pfi (M := kt_M205) (c := 4) (o := 0) kX5_protocol_c1.2.2.2.1 wq_X5_130 (.inl rfl) ?_
  refine kz_aload_n (M := kt_M205) kX5_protocol_c1.2.2.2.2.1 rfl ?_
  refine kz_bi (M := kt_M205) 13 kX5_protocol_c1.2.2.2.2.2.1 rfl ?_
  refine kz_cv1 (M := kt_M205) (c := 4) (o := 0) (As := [.int 13]) (rest := []) kX5_protocol_c1.2.2.2.2.2.2.1 wl_X5_79 wMv_183 rfl (.inl rfl) rfl (Nat.le_trans (Nat.le_of_ble_eq_true rfl) hL) (Nat.le_of_ble_eq_true rfl) (Nat.le_of_ble_eq_true rfl) h (fun v7 w6 hle h => ?_) (fun _ _ _ h => kzx_no rfl h)
  have h := h hle
  have hlp5 := w_l_le hlp5 hle
  refine kz_if_eq (M := kt_M205) kX5_protocol_c1.2.2.2.2.2.2.2.1 (t := 61) rfl h (fun h => ?_) (fun h => ?_)
  · skip
    refine kz_aload_nv (M := kt_M205) (x := x1) kX5_protocol_c3.2.2.2.2.2.2.2.1 rfl ?_
    refine kz_getsE (M := kt_M205) (v := va_rf (some (E.1.1 31))) kX5_protocol_c4.1 zs_X5_267 ?_
    refine kz_nz1 (x := x1) hxp5 ?_
    refine kz_pfp (M := kt_M205) (n := some (E.1.1 31)) (c := 14) (o := p5) kX5_protocol_c4.2.1 wq_X5_214 (.inr (by exact hlp5)) ?_
    refine kz_aload_n (M := kt_M205) kX5_protocol_c4.2.2.1 rfl ?_
    refine kz_cv0 (M := kt_M205) (c := 4) (o := 0) (As := []) (rest := []) kX5_protocol_c4.2.2.2.1 wl_X5_229 wMv_174 rfl (.inl rfl) rfl (Nat.le_trans (Nat.le_of_ble_eq_true rfl) hL) (Nat.le_of_ble_eq_true rfl) (Nat.le_of_ble_eq_true rfl) h (fun w8 hle h => ?_) (fun _ _ _ h => kzx_no rfl h)
    have h := h hle
    have hlp5 := w_l_le hlp5 hle
    refine kz_aload_n (M := kt_M205) kX5_protocol_c4.2.2.2.2.1 rfl ?_
    refine kz_iload_n (M := kt_M205) kX5_protocol_c4.2.2.2.2.2.1 rfl ?_
    refine kz_ic (M := kt_M205) 1 kX5_protocol_c4.2.2.2.2.2.2.1 rfl ?_
    refine kz_iadd (M := kt_M205) kX5_protocol_c4.2.2.2.2.2.2.2.1 ?_
    refine kz_aload_n (M := kt_M205) kX5_protocol_c5.1 rfl ?_
    refine kz_ic (M := kt_M205) 5 kX5_protocol_c5.2.1 rfl ?_
    refine kz_cv1 (M := kt_M205) (c := 4) (o := 0) (As := [.int 5]) (rest := [.int (x2 + 1), .ref (w_adr E.2.1 4 0)]) kX5_protocol_c5.2.2.1 wl_X5_79 wMv_183 rfl (.inl rfl) rfl (Nat.le_trans (Nat.le_of_ble_eq_true rfl) hL) (Nat.le_of_ble_eq_true rfl) (Nat.le_of_ble_eq_true rfl) h (fun v11 w10 hle h => ?_) (fun _ _ _ h => kzx_no rfl h)
    have h := h hle
    have hlp5 := w_l_le hlp5 hle
    refine kz_cv0 (M := kt_M205) (c := 4) (o := 0) (As := [.int (x2 + 1), .int v11]) (rest := []) kX5_protocol_c5.2.2.2.1 wl_X5_143 wMv_211 rfl (.inl rfl) rfl (Nat.le_trans (Nat.le_of_ble_eq_true rfl) hL) (Nat.le_of_ble_eq_true rfl) (Nat.le_of_ble_eq_true rfl) h (fun w12 hle h => ?_) (fun _ _ _ h => kzx_no rfl h)
    have h := h hle
    have hlp5 := w_l_le hlp5 hle
    refine kz_aload_n (M := kt_M205) kX5_protocol_c5.2.2.2.2.1 rfl ?_
    refine kz_cv0 (M := kt_M205) (c := 4) (o := 0) (As := []) (rest := []) kX5_protocol_c5.2.2.2.2.2.1 wl_X5_85 wMv_195 rfl (.inl rfl) rfl (Nat.le_trans (Nat.le_of_ble_eq_true rfl) hL) (Nat.le_of_ble_eq_true rfl) (Nat.le_of_ble_eq_true rfl) h (fun w14 hle h => ?_) (fun _ _ _ h => kzx_no rfl h)
    have h := h hle
    have hlp5 := w_l_le hlp5 hle
    refine kz_aload_n (M := kt_M205) kX5_protocol_c5.2.2.2.2.2.2.1 rfl ?_
    refine kz_cv0 (M := kt_M205) (c := 4) (o := 0) (As := []) (rest := []) kX5_protocol_c5.2.2.2.2.2.2.2.1 wl_X5_229 wMv_174 rfl (.inl rfl) rfl (Nat.le_trans (Nat.le_of_ble_eq_true rfl) hL) (Nat.le_of_ble_eq_true rfl) (Nat.le_of_ble_eq_true rfl) h (fun w16 hle h => ?_) (fun _ _ _ h => kzx_no rfl h)
    have h := h hle
    have hlp5 := w_l_le hlp5 hle
    refine kz_null (M := kt_M205) kX5_protocol_c6.1 ?_
    refine kz_stv_n (M := kt_M205) (x := none) [(0, .ref (w_adr E.2.1 4 0)), (1, va_rf (x1)), (2, .int x2)] kX5_protocol_c6.2.1 (Nat.le_of_ble_eq_true rfl) ⟨⟨rfl, rfl, .inl rfl⟩, ⟨⟨rfl, rfl, .inl rfl⟩, ⟨⟨rfl, rfl, .inr rfl⟩, trivial⟩⟩⟩ rfl ?_
    refine kz_aload_n (M := kt_M205) kX5_protocol_c6.2.2.1 rfl ?_
    refine kz_iload_n (M := kt_M205) kX5_protocol_c6.2.2.2.1 rfl ?_
    refine kz_ic (M := kt_M205) 2 kX5_protocol_c6.2.2.2.2.1 rfl ?_
    refine kz_iadd (M := kt_M205) kX5_protocol_c6.2.2.2.2.2.1 ?_
    refine kz_aload_n (M := kt_M205) kX5_protocol_c6.2.2.2.2.2.2.1 rfl ?_
    refine kz_cv1 (M := kt_M205) (c := 4) (o := 0) (As := []) (rest := [.int (x2 + 2), .ref (w_adr E.2.1 4 0)]) kX5_protocol_c6.2.2.2.2.2.2.2.1 wl_X5_91 wMv_184 rfl (.inl rfl) rfl (Nat.le_trans (Nat.le_of_ble_eq_true rfl) hL) (Nat.le_of_ble_eq_true rfl) (Nat.le_of_ble_eq_true rfl) h (fun v19 w18 hle h => ?_) (fun _ _ _ h => kzx_no rfl h)
    have h := h hle
    have hlp5 := w_l_le hlp5 hle
    refine kz_cv0 (M := kt_M205) (c := 4) (o := 0) (As := [.int (x2 + 2), .int v19]) (rest := []) kX5_protocol_c7.1 wl_X5_143 wMv_211 rfl (.inl rfl) rfl (Nat.le_trans (Nat.le_of_ble_eq_true rfl) hL) (Nat.le_of_ble_eq_true rfl) (Nat.le_of_ble_eq_true rfl) h (fun w20 hle h => ?_) (fun _ _ _ h => kzx_no rfl h)
    have h := h hle
    have hlp5 := w_l_le hlp5 hle
    exact kz_weak [(0, .ref (w_adr E.2.1 4 0)), (1, va_rf (x1)), (2, .int x2), (3, va_rf (none))] ⟨rfl, ⟨rfl, ⟨rfl, ⟨rfl, trivial⟩⟩⟩⟩ rfl h
  · skip
    refine kz_aload_nv (M := kt_M205) (x := x1) kX5_protocol_c2.1 rfl ?_
    refine kz_getsE (M := kt_M205) (v := va_rf (some (E.1.1 29))) kX5_protocol_c2.2.1 zs_X5_261 ?_
    refine kz_nz1 (x := x1) hxp5 ?_
    refine kz_pfp (M := kt_M205) (n := some (E.1.1 29)) (c := 14) (o := p5) kX5_protocol_c2.2.2.1 wq_X5_214 (.inr (by exact hlp5)) ?_
    refine kz_aload_n (M := kt_M205) kX5_protocol_c2.2.2.2.1 rfl ?_
    refine kz_cv0 (M := kt_M205) (c := 4) (o := 0) (As := []) (rest := []) kX5_protocol_c2.2.2.2.2.1 wl_X5_85 wMv_195 rfl (.inl rfl) rfl (Nat.le_trans (Nat.le_of_ble_eq_true rfl) hL) (Nat.le_of_ble_eq_true rfl) (Nat.le_of_ble_eq_true rfl) h (fun w22 hle h => ?_) (fun _ _ _ h => kzx_no rfl h)
    have h := h hle
    have hlp5 := w_l_le hlp5 hle
    refine kz_aload_nv (M := kt_M205) (x := x1) kX5_protocol_c2.2.2.2.2.2.1 rfl ?_
    refine kz_aload_n (M := kt_M205) kX5_protocol_c2.2.2.2.2.2.2.1 rfl ?_
    refine kz_cvr (M := kt_M205) (c := 4) (o := 0) (As := []) (rest := [va_rf (x1)]) kX5_protocol_c2.2.2.2.2.2.2.2.1 wl_X5_264 wMv_200 rfl (.inl rfl) rfl (Nat.le_trans (Nat.le_of_ble_eq_true rfl) hL) (Nat.le_of_ble_eq_true rfl) (by simp [kx_cat, w_cat, z_ci, z_cr, z_cl, z_cn]) h (fun v25 w24 hle h => ?_) (fun _ _ _ h => kzx_no rfl h)
    have h := h hle
    have hlp5 := w_l_le hlp5 hle
    refine kz_nz1 (x := x1) hxp5 ?_
    refine kz_pfp (M := kt_M205) (n := v25) (c := 14) (o := p5) kX5_protocol_c3.1 wq_X5_168 (.inr (by exact hlp5)) ?_
    refine kz_aload_n (M := kt_M205) kX5_protocol_c3.2.1 rfl ?_
    refine kz_bi (M := kt_M205) 42 kX5_protocol_c3.2.2.1 rfl ?_
    refine kz_cv0 (M := kt_M205) (c := 4) (o := 0) (As := [.int 42]) (rest := []) kX5_protocol_c3.2.2.2.1 wl_X5_100 wMv_176 rfl (.inl rfl) rfl (Nat.le_trans (Nat.le_of_ble_eq_true rfl) hL) (Nat.le_of_ble_eq_true rfl) (Nat.le_of_ble_eq_true rfl) h (fun w26 hle h => ?_) (fun _ _ _ h => kzx_no rfl h)
    have h := h hle
    have hlp5 := w_l_le hlp5 hle
    refine kz_aload_n (M := kt_M205) kX5_protocol_c3.2.2.2.2.1 rfl ?_
    refine kz_cv0 (M := kt_M205) (c := 4) (o := 0) (As := []) (rest := []) kX5_protocol_c3.2.2.2.2.2.1 wl_X5_229 wMv_174 rfl (.inl rfl) rfl (Nat.le_trans (Nat.le_of_ble_eq_true rfl) hL) (Nat.le_of_ble_eq_true rfl) (Nat.le_of_ble_eq_true rfl) h (fun w28 hle h => ?_) (fun _ _ _ h => kzx_no rfl h)
    have h := h hle
    have hlp5 := w_l_le hlp5 hle
    exact kz_ret (M := kt_M205) kX5_protocol_c3.2.2.2.2.2.2.1 rfl h
def zL_X5_parts_p9 (E : zE) (L : Nat) (Q : kx_Rs → wS → Prop) (x1 : Option Nat) (x2 : Option Nat) (x3 : Int32) (x4 : Int32) (w : wS) : Prop := kzE E L kt_M200 9 [(0, .ref (w_adr E.2.1 4 0)), (1, va_rf (x1)), (2, va_rf (x2)), (3, .int x3), (4, .int x4)] [] w Q
def zb_X5_parts_p72 (E : zE) (L : Nat) (Q : kx_Rs → wS → Prop) (x1 : Option Nat) (x2 : Option Nat) (x4 : Int32) (w : wS) : Prop := zw E (L - 21) kt_M212 [.ref (w_adr E.2.1 4 0)] w (wk1 (fun v2 w1 => wle w w1 → (∃ p3, x2 = some p3 ∧ w_l w1 E.2.1 14 p3 ∧ zw E (L - 21) kt_M183 [.ref (w_adr E.2.1 4 0), .int 41] (ws_i w1 14 p3 8 v2) (wk1 (fun v5 w4 => wle (ws_i w1 14 p3 8 v2) w4 → (if v5 = 0 then zL_X5_parts_p9 E L Q x1 x2 v5 x4 w4 else zw E (L - 20) kt_M195 [.ref (w_adr E.2.1 4 0)] w4 (wk0 (fun w6 => wle w4 w6 → zL_X5_parts_p9 E L Q x1 x2 v5 x4 w6) (fun e w => Q (.inr e) w)))) (fun e w => Q (.inr e) w)))) (fun e w => Q (.inr e) w))
theorem zt_X5_parts_p72 {E : zE} {L : Nat} {Q : kx_Rs → wS → Prop} {x1 : Option Nat} {x2 : Option Nat} {x4 : Int32} {w : wS} (hL : 22 ≤ L) (h : zb_X5_parts_p72 E L Q x1 x2 x4 w) : kzE E L kt_M200 72 [(0, .ref (w_adr E.2.1 4 0)), (1, va_rf (x1)), (2, va_rf (x2)), (4, .int x4)] [] w Q := by
  unfold zb_X5_parts_p72 at h
  refine kz_aload_nv (M := kt_M200) (x := x2) kX5_parts_c4.2.2.2.2.2.2.2.1 rfl ?_
  refine kz_aload_n (M := kt_M200) kX5_parts_c5.1 rfl ?_
  refine kz_cv1 (M := kt_M200) (c := 4) (o := 0) (As := []) (rest := [va_rf (x2)]) kX5_parts_c5.2.1 wl_X5_174 wMv_212 rfl (.inl rfl) rfl (Nat.le_trans (Nat.le_of_ble_eq_true rfl) hL) (Nat.le_of_ble_eq_true rfl) (by simp [kx_cat, w_cat, z_ci, z_cr, z_cl, z_cn]) h (fun v2 w1 hle h => ?_) (fun _ _ _ h => kzx_no rfl h)
  have h := h hle
  obtain ⟨p3, hxp3, hlp3, h⟩ := h
  refine kz_nz1 (x := x2) hxp3 ?_
  refine kz_pfi (M := kt_M200) (c := 14) (o := p3) kX5_parts_c5.2.2.1 wq_X5_177 (.inr (by exact hlp3)) ?_
  refine kz_aload_n (M := kt_M200) kX5_parts_c5.2.2.2.1 rfl ?_
  refine kz_bi (M := kt_M200) 41 kX5_parts_c5.2.2.2.2.1 rfl ?_
  refine kz_cv1 (M := kt_M200) (c := 4) (o := 0) (As := [.int 41]) (rest := []) kX5_parts_c5.2.2.2.2.2.1 wl_X5_79 wMv_183 rfl (.inl rfl) rfl (Nat.le_trans (Nat.le_of_ble_eq_true rfl) hL) (Nat.le_of_ble_eq_true rfl) (Nat.le_of_ble_eq_true rfl) h (fun v5 w4 hle h => ?_) (fun _ _ _ h => kzx_no rfl h)
  have h := h hle
  have hlp3 := w_l_le hlp3 hle
  refine kz_sti_n (M := kt_M200) [(0, .ref (w_adr E.2.1 4 0)), (1, va_rf (x1)), (2, va_rf (x2)), (4, .int x4)] kX5_parts_c5.2.2.2.2.2.2.1 (Nat.le_of_ble_eq_true rfl) ⟨⟨rfl, rfl, .inl rfl⟩, ⟨⟨rfl, rfl, .inl rfl⟩, ⟨⟨rfl, rfl, .inr (w_cat (x2))⟩, ⟨⟨rfl, rfl, .inl rfl⟩, trivial⟩⟩⟩⟩ rfl ?_
  refine kz_iload_n (M := kt_M200) kX5_parts_c5.2.2.2.2.2.2.2.1 rfl ?_
  refine kz_if_eq (M := kt_M200) kX5_parts_c6.1 (t := 9) rfl h (fun h => ?_) (fun h => ?_)
  · skip
    exact kz_weak [(0, .ref (w_adr E.2.1 4 0)), (1, va_rf (x1)), (2, va_rf (x2)), (3, .int v5), (4, .int x4)] ⟨rfl, ⟨rfl, ⟨rfl, ⟨rfl, ⟨rfl, trivial⟩⟩⟩⟩⟩ rfl h
  · skip
    refine kz_aload_n (M := kt_M200) kX5_parts_c6.2.1 rfl ?_
    refine kz_cv0 (M := kt_M200) (c := 4) (o := 0) (As := []) (rest := []) kX5_parts_c6.2.2.1 wl_X5_85 wMv_195 rfl (.inl rfl) rfl (Nat.le_trans (Nat.le_of_ble_eq_true rfl) hL) (Nat.le_of_ble_eq_true rfl) (Nat.le_of_ble_eq_true rfl) h (fun w6 hle h => ?_) (fun _ _ _ h => kzx_no rfl h)
    have h := h hle
    have hlp3 := w_l_le hlp3 hle
    refine kz_goto (M := kt_M200) kX5_parts_c6.2.2.2.1 (t := 9) rfl ?_
    exact kz_weak [(0, .ref (w_adr E.2.1 4 0)), (1, va_rf (x1)), (2, va_rf (x2)), (3, .int v5), (4, .int x4)] ⟨rfl, ⟨rfl, ⟨rfl, ⟨rfl, ⟨rfl, trivial⟩⟩⟩⟩⟩ rfl h
def zb_X5_parts_p45 (E : zE) (L : Nat) (Q : kx_Rs → wS → Prop) (x1 : Option Nat) (x2 : Option Nat) (x4 : Int32) (w : wS) : Prop := zw E (L - 21) kt_M183 [.ref (w_adr E.2.1 4 0), .int 38] w (wk1 (fun v2 w1 => wle w w1 → (if v2 = 0 then zb_X5_parts_p72 E L Q x1 x2 x4 w1 else zw E (L - 20) kt_M175 [.ref (w_adr E.2.1 4 0)] w1 (wk0 (fun w3 => wle w1 w3 → zw E (L - 22) kt_M177 [.ref (w_adr E.2.1 4 0)] w3 (wkr (fun v6 w5 => wle w3 w5 → (∃ p7, x2 = some p7 ∧ w_l w5 E.2.1 14 p7 ∧ zw E (L - 21) kt_M188 [.ref (w_adr E.2.1 4 0), .int 39] (ws_p w5 14 p7 3 v6) (wk0 (fun w8 => wle (ws_p w5 14 p7 3 v6) w8 → zb_X5_parts_p72 E L Q x1 x2 x4 w8) (fun e w => Q (.inr e) w)))) (fun e w => Q (.inr e) w))) (fun e w => Q (.inr e) w)))) (fun e w => Q (.inr e) w))
theorem zt_X5_parts_p45 {E : zE} {L : Nat} {Q : kx_Rs → wS → Prop} {x1 : Option Nat} {x2 : Option Nat} {x4 : Int32} {w : wS} (hL : 22 ≤ L) (h : zb_X5_parts_p45 E L Q x1 x2 x4 w) : kzE E L kt_M200 45 [(0, .ref (w_adr E.2.1 4 0)), (1, va_rf (x1)), (2, va_rf (x2)), (4, .int x4)] [] w Q := by
  unfold zb_X5_parts_p45 at h
  refine kz_aload_n (M := kt_M200) kX5_parts_c3.2.2.1 rfl ?_
  refine kz_bi (M := kt_M200) 38 kX5_parts_c3.2.2.2.1 rfl ?_
  refine kz_cv1 (M := kt_M200) (c := 4) (o := 0) (As := [.int 38]) (rest := []) kX5_parts_c3.2.2.2.2.1 wl_X5_79 wMv_183 rfl (.inl rfl) rfl (Nat.le_trans (Nat.le_of_ble_eq_true rfl) hL) (Nat.le_of_ble_eq_true rfl) (Nat.le_of_ble_eq_true rfl) h (fun v2 w1 hle h => ?_) (fun _ _ _ h => kzx_no rfl h)
  have h := h hle
  refine kz_if_eq (M := kt_M200) kX5_parts_c3.2.2.2.2.2.1 (t := 72) rfl h (fun h => ?_) (fun h => ?_)
  · skip
    exact kz_weak [(0, .ref (w_adr E.2.1 4 0)), (1, va_rf (x1)), (2, va_rf (x2)), (4, .int x4)] ⟨rfl, ⟨rfl, ⟨rfl, ⟨rfl, trivial⟩⟩⟩⟩ rfl (zt_X5_parts_p72 hL  h)
  · skip
    refine kz_aload_n (M := kt_M200) kX5_parts_c3.2.2.2.2.2.2.1 rfl ?_
    refine kz_cv0 (M := kt_M200) (c := 4) (o := 0) (As := []) (rest := []) kX5_parts_c3.2.2.2.2.2.2.2.1 wl_X5_188 wMv_175 rfl (.inl rfl) rfl (Nat.le_trans (Nat.le_of_ble_eq_true rfl) hL) (Nat.le_of_ble_eq_true rfl) (Nat.le_of_ble_eq_true rfl) h (fun w3 hle h => ?_) (fun _ _ _ h => kzx_no rfl h)
    have h := h hle
    refine kz_aload_nv (M := kt_M200) (x := x2) kX5_parts_c4.1 rfl ?_
    refine kz_aload_n (M := kt_M200) kX5_parts_c4.2.1 rfl ?_
    refine kz_cvr (M := kt_M200) (c := 4) (o := 0) (As := []) (rest := [va_rf (x2)]) kX5_parts_c4.2.2.1 wl_X5_194 wMv_177 rfl (.inl rfl) rfl (Nat.le_trans (Nat.le_of_ble_eq_true rfl) hL) (Nat.le_of_ble_eq_true rfl) (by simp [kx_cat, w_cat, z_ci, z_cr, z_cl, z_cn]) h (fun v6 w5 hle h => ?_) (fun _ _ _ h => kzx_no rfl h)
    have h := h hle
    obtain ⟨p7, hxp7, hlp7, h⟩ := h
    refine kz_nz1 (x := x2) hxp7 ?_
    refine kz_pfp (M := kt_M200) (n := v6) (c := 14) (o := p7) kX5_parts_c4.2.2.2.1 wq_X5_162 (.inr (by exact hlp7)) ?_
    refine kz_aload_n (M := kt_M200) kX5_parts_c4.2.2.2.2.1 rfl ?_
    refine kz_bi (M := kt_M200) 39 kX5_parts_c4.2.2.2.2.2.1 rfl ?_
    refine kz_cv0 (M := kt_M200) (c := 4) (o := 0) (As := [.int 39]) (rest := []) kX5_parts_c4.2.2.2.2.2.2.1 wl_X5_198 wMv_188 rfl (.inl rfl) rfl (Nat.le_trans (Nat.le_of_ble_eq_true rfl) hL) (Nat.le_of_ble_eq_true rfl) (Nat.le_of_ble_eq_true rfl) h (fun w8 hle h => ?_) (fun _ _ _ h => kzx_no rfl h)
    have h := h hle
    have hlp7 := w_l_le hlp7 hle
    exact kz_weak [(0, .ref (w_adr E.2.1 4 0)), (1, va_rf (x1)), (2, va_rf (x2)), (4, .int x4)] ⟨rfl, ⟨rfl, ⟨rfl, ⟨rfl, trivial⟩⟩⟩⟩ rfl (zt_X5_parts_p72 hL  h)
def zb_X5_parts_p24 (E : zE) (L : Nat) (Q : kx_Rs → wS → Prop) (x1 : Option Nat) (x2 : Option Nat) (x4 : Int32) (w : wS) : Prop := zw E (L - 21) kt_M196 [.ref (w_adr E.2.1 4 0), va_rf (some (E.1.1 30))] w (wkr (fun v2 w1 => wle w w1 → zw E (L - 21) kt_M166 [va_rf (x2), va_rf (v2)] w1 (wkr (fun v4 w3 => wle w1 w3 → (if ¬ x1 = none then zb_X5_parts_p45 E L Q x1 v4 (x4 + 1) w3 else zb_X5_parts_p45 E L Q v4 v4 (x4 + 1) w3)) (fun e w => Q (.inr e) w))) (fun e w => Q (.inr e) w))
theorem zt_X5_parts_p24 {E : zE} {L : Nat} {Q : kx_Rs → wS → Prop} {x1 : Option Nat} {x2 : Option Nat} {x4 : Int32} {w : wS} (hL : 22 ≤ L) (h : zb_X5_parts_p24 E L Q x1 x2 x4 w) : kzE E L kt_M200 24 [(0, .ref (w_adr E.2.1 4 0)), (1, va_rf (x1)), (2, va_rf (x2)), (4, .int x4)] [] w Q := by
  unfold zb_X5_parts_p24 at h
  refine kz_inc (M := kt_M200) [(0, .ref (w_adr E.2.1 4 0)), (1, va_rf (x1)), (2, va_rf (x2))] kX5_parts_c1.2.2.2.2.2.2.2.1 rfl (Nat.le_of_ble_eq_true rfl) ⟨⟨rfl, rfl, .inl rfl⟩, ⟨⟨rfl, rfl, .inl rfl⟩, ⟨⟨rfl, rfl, .inl rfl⟩, trivial⟩⟩⟩ rfl ?_
  refine kz_aload_nv (M := kt_M200) (x := x2) kX5_parts_c2.1 rfl ?_
  refine kz_aload_n (M := kt_M200) kX5_parts_c2.2.1 rfl ?_
  refine kz_getsE (M := kt_M200) (v := va_rf (some (E.1.1 30))) kX5_parts_c2.2.2.1 zs_X5_258 ?_
  refine kz_cvr (M := kt_M200) (c := 4) (o := 0) (As := [va_rf (some (E.1.1 30))]) (rest := [va_rf (x2)]) kX5_parts_c2.2.2.2.1 wl_X5_152 wMv_196 rfl (.inl rfl) rfl (Nat.le_trans (Nat.le_of_ble_eq_true rfl) hL) (by simp [lg_sl, w_cat, z_ci, z_cr, z_cl, z_cn, kt_M196]) (by simp [kx_cat, w_cat, z_ci, z_cr, z_cl, z_cn]) h (fun v2 w1 hle h => ?_) (fun _ _ _ h => kzx_no rfl h)
  have h := h hle
  refine kz_csr (M := kt_M200) (As := [va_rf (x2), va_rf (v2)]) (rest := []) kX5_parts_c2.2.2.2.2.1 wl_X5_158 wMs_166 rfl (Nat.le_trans (Nat.le_of_ble_eq_true rfl) hL) (by simp [lg_sl, w_cat, z_ci, z_cr, z_cl, z_cn, kt_M166]) (Nat.le_of_ble_eq_true rfl) h (fun v4 w3 hle h => ?_) (fun _ _ _ h => kzx_no rfl h)
  have h := h hle
  refine kz_stv_n (M := kt_M200) (x := v4) [(0, .ref (w_adr E.2.1 4 0)), (1, va_rf (x1)), (4, .int (x4 + 1))] kX5_parts_c2.2.2.2.2.2.1 (Nat.le_of_ble_eq_true rfl) ⟨⟨rfl, rfl, .inl rfl⟩, ⟨⟨rfl, rfl, .inr (w_cat (x1))⟩, ⟨⟨rfl, rfl, .inl rfl⟩, trivial⟩⟩⟩ rfl ?_
  refine kz_aload_nv (M := kt_M200) (x := x1) kX5_parts_c2.2.2.2.2.2.2.1 rfl ?_
  refine kz_ifnonnull (M := kt_M200) (x := x1) kX5_parts_c2.2.2.2.2.2.2.2.1 (t := 45) rfl h (fun h => ?_) (fun h => ?_)
  · skip
    exact kz_weak [(0, .ref (w_adr E.2.1 4 0)), (1, va_rf (x1)), (2, va_rf (v4)), (4, .int (x4 + 1))] ⟨rfl, ⟨rfl, ⟨rfl, ⟨rfl, trivial⟩⟩⟩⟩ rfl (zt_X5_parts_p45 hL  h)
  · skip
    refine kz_aload_nv (M := kt_M200) (x := v4) kX5_parts_c3.1 rfl ?_
    refine kz_stv_n (M := kt_M200) (x := v4) [(0, .ref (w_adr E.2.1 4 0)), (2, va_rf (v4)), (4, .int (x4 + 1))] kX5_parts_c3.2.1 (Nat.le_of_ble_eq_true rfl) ⟨⟨rfl, rfl, .inr rfl⟩, ⟨⟨rfl, rfl, .inl rfl⟩, ⟨⟨rfl, rfl, .inl rfl⟩, trivial⟩⟩⟩ rfl ?_
    exact kz_weak [(0, .ref (w_adr E.2.1 4 0)), (1, va_rf (v4)), (2, va_rf (v4)), (4, .int (x4 + 1))] ⟨rfl, ⟨rfl, ⟨rfl, ⟨rfl, trivial⟩⟩⟩⟩ rfl (zt_X5_parts_p45 hL  h)
def zb_X5_parts_p9 (E : zE) (L : Nat) (Q : kx_Rs → wS → Prop) (x1 : Option Nat) (x2 : Option Nat) (x3 : Int32) (x4 : Int32) (w : wS) : Prop := (if x3 = 0 then Q (.inl (some (va_rf (x1)))) w else (if ¬ x4 = 16 then zb_X5_parts_p24 E L Q x1 x2 x4 w else zw E (L - 20) kt_M213 [.ref (w_adr E.2.1 4 0)] w (wk0 (fun w1 => wle w w1 → zb_X5_parts_p24 E L Q x1 x2 x4 w1) (fun e w => Q (.inr e) w))))
theorem zt_X5_parts_p9 {E : zE} {L : Nat} {Q : kx_Rs → wS → Prop} {x1 : Option Nat} {x2 : Option Nat} {x3 : Int32} {x4 : Int32} {w : wS} (hL : 22 ≤ L) (h : zb_X5_parts_p9 E L Q x1 x2 x3 x4 w) : kzE E L kt_M200 9 [(0, .ref (w_adr E.2.1 4 0)), (1, va_rf (x1)), (2, va_rf (x2)), (3, .int x3), (4, .int x4)] [] w Q := by
  unfold zb_X5_parts_p9 at h
  refine kz_iload_n (M := kt_M200) kX5_parts_c1.1 rfl ?_
  refine kz_if_eq (M := kt_M200) kX5_parts_c1.2.1 (t := 98) rfl h (fun h => ?_) (fun h => ?_)
  · skip
    refine kz_aload_nv (M := kt_M200) (x := x1) kX5_parts_c6.2.2.2.2.1 rfl ?_
    exact kz_areto (x := x1) (M := kt_M200) kX5_parts_c6.2.2.2.2.2.1 rfl h
  · skip
    refine kz_iload (M := kt_M200) kX5_parts_c1.2.2.1 rfl ?_
    refine kz_bi (M := kt_M200) 16 kX5_parts_c1.2.2.2.1 rfl ?_
    refine kz_icmp_ne (M := kt_M200) kX5_parts_c1.2.2.2.2.1 (t := 24) rfl h (fun h => ?_) (fun h => ?_)
    · skip
      exact kz_weak [(0, .ref (w_adr E.2.1 4 0)), (1, va_rf (x1)), (2, va_rf (x2)), (4, .int x4)] ⟨rfl, ⟨rfl, ⟨rfl, ⟨rfl, trivial⟩⟩⟩⟩ rfl (zt_X5_parts_p24 hL  h)
    · skip
      refine kz_aload_n (M := kt_M200) kX5_parts_c1.2.2.2.2.2.1 rfl ?_
      refine kz_cv0 (M := kt_M200) (c := 4) (o := 0) (As := []) (rest := []) kX5_parts_c1.2.2.2.2.2.2.1 wl_X5_82 wMv_213 rfl (.inl rfl) rfl (Nat.le_trans (Nat.le_of_ble_eq_true rfl) hL) (Nat.le_of_ble_eq_true rfl) (Nat.le_of_ble_eq_true rfl) h (fun w1 hle h => ?_) (fun _ _ _ h => kzx_no rfl h)
      have h := h hle
      exact kz_weak [(0, .ref (w_adr E.2.1 4 0)), (1, va_rf (x1)), (2, va_rf (x2)), (4, .int x4)] ⟨rfl, ⟨rfl, ⟨rfl, ⟨rfl, trivial⟩⟩⟩⟩ rfl (zt_X5_parts_p24 hL  h)
def zb_X5_parts_p0 (E : zE) (L : Nat) (Q : kx_Rs → wS → Prop) (w : wS) : Prop := zL_X5_parts_p9 E L Q none none 1 0 w
theorem zt_X5_parts_p0 {E : zE} {L : Nat} {Q : kx_Rs → wS → Prop} {w : wS} (hL : 22 ≤ L) (h : zb_X5_parts_p0 E L Q  w) : kzE E L kt_M200 0 [(0, .ref (w_adr E.2.1 4 0))] [] w Q := by
  unfold zb_X5_parts_p0 at h
  refine kz_null (M := kt_M200) kX5_parts_c0.1 ?_
  refine kz_stv_n (M := kt_M200) (x := none) [(0, .ref (w_adr E.2.1 4 0))] kX5_parts_c0.2.1 (Nat.le_of_ble_eq_true rfl) ⟨⟨rfl, rfl, .inr rfl⟩, trivial⟩ rfl ?_
  refine kz_null (M := kt_M200) kX5_parts_c0.2.2.1 ?_
  refine kz_stv_n (M := kt_M200) (x := none) [(0, .ref (w_adr E.2.1 4 0)), (1, va_rf (none))] kX5_parts_c0.2.2.2.1 (Nat.le_of_ble_eq_true rfl) ⟨⟨rfl, rfl, .inl rfl⟩, ⟨⟨rfl, rfl, .inr (w_cat (none))⟩, trivial⟩⟩ rfl ?_
  refine kz_ic (M := kt_M200) 1 kX5_parts_c0.2.2.2.2.1 rfl ?_
  refine kz_sti_n (M := kt_M200) [(0, .ref (w_adr E.2.1 4 0)), (1, va_rf (none)), (2, va_rf (none))] kX5_parts_c0.2.2.2.2.2.1 (Nat.le_of_ble_eq_true rfl) ⟨⟨rfl, rfl, .inl rfl⟩, ⟨⟨rfl, rfl, .inl rfl⟩, ⟨⟨rfl, rfl, .inr (w_cat (none))⟩, trivial⟩⟩⟩ rfl ?_
  refine kz_ic (M := kt_M200) 0 kX5_parts_c0.2.2.2.2.2.2.1 rfl ?_
  refine kz_sti (M := kt_M200) [(0, .ref (w_adr E.2.1 4 0)), (1, va_rf (none)), (2, va_rf (none)), (3, .int 1)] kX5_parts_c0.2.2.2.2.2.2.2.1 (Nat.le_of_ble_eq_true rfl) ⟨⟨rfl, rfl, .inl rfl⟩, ⟨⟨rfl, rfl, .inl rfl⟩, ⟨⟨rfl, rfl, .inl rfl⟩, ⟨⟨rfl, rfl, .inr rfl⟩, trivial⟩⟩⟩⟩ rfl ?_
  exact kz_weak [(0, .ref (w_adr E.2.1 4 0)), (1, va_rf (none)), (2, va_rf (none)), (3, .int 1), (4, .int 0)] ⟨rfl, ⟨rfl, ⟨rfl, ⟨rfl, ⟨rfl, trivial⟩⟩⟩⟩⟩ rfl h
def zb_X5_procedure_p0 (E : zE) (L : Nat) (Q : kx_Rs → wS → Prop) (x1 : Option Nat) (x2 : Int32) (w : wS) : Prop := zw E (L - 20) kt_M195 [.ref (w_adr E.2.1 4 0)] w (wk0 (fun w1 => wle w w1 → (∃ p3, x1 = some p3 ∧ w_l w1 E.2.1 14 p3 ∧ zw E (L - 21) kt_M193 [.ref (w_adr E.2.1 4 0)] (ws_p w1 14 p3 0 (some (E.1.1 33))) (wk1 (fun v5 w4 => wle (ws_p w1 14 p3 0 (some (E.1.1 33))) w4 → zw E (L - 25) kt_M179 [.ref (w_adr E.2.1 4 0)] (ws_i (ws_i w4 14 p3 9 v5) 4 0 5 ((w_i w4 4 0 5) + 1)) (wkr (fun v7 w6 => wle (ws_i (ws_i w4 14 p3 9 v5) 4 0 5 ((w_i w4 4 0 5) + 1)) w6 → zw E (L - 20) kt_M174 [.ref (w_adr E.2.1 4 0)] (ws_p w6 14 p3 3 v7) (wk0 (fun w8 => wle (ws_p w6 14 p3 3 v7) w8 → zw E (L - 23) kt_M202 [.ref (w_adr E.2.1 4 0), .int (x2 + 1)] w8 (wkr (fun v11 w10 => wle w8 w10 → zw E (L - 21) kt_M170 [.ref (w_adr E.2.1 4 0), .int x2] (ws_p w10 14 p3 4 v11) (wk0 (fun w12 => wle (ws_p w10 14 p3 4 v11) w12 → Q (.inl none) w12) (fun e w => Q (.inr e) w))) (fun e w => Q (.inr e) w))) (fun e w => Q (.inr e) w))) (fun e w => Q (.inr e) w))) (fun e w => Q (.inr e) w)))) (fun e w => Q (.inr e) w))
theorem zt_X5_procedure_p0 {E : zE} {L : Nat} {Q : kx_Rs → wS → Prop} {x1 : Option Nat} {x2 : Int32} {w : wS} (hL : 25 ≤ L) (h : zb_X5_procedure_p0 E L Q x1 x2 w) : kzE E L kt_M201 0 [(0, .ref (w_adr E.2.1 4 0)), (1, va_rf (x1)), (2, .int x2)] [] w Q := by
  unfold zb_X5_procedure_p0 at h
  refine kz_aload_n (M := kt_M201) kX5_procedure_c0.1 rfl ?_
  refine kz_cv0 (M := kt_M201) (c := 4) (o := 0) (As := []) (rest := []) kX5_procedure_c0.2.1 wl_X5_85 wMv_195 rfl (.inl rfl) rfl (Nat.le_trans (Nat.le_of_ble_eq_true rfl) hL) (Nat.le_of_ble_eq_true rfl) (Nat.le_of_ble_eq_true rfl) h (fun w1 hle h => ?_) (fun _ _ _ h => kzx_no rfl h)
  have h := h hle
  refine kz_aload_nv (M := kt_M201) (x := x1) kX5_procedure_c0.2.2.1 rfl ?_
  refine kz_getsE (M := kt_M201) (v := va_rf (some (E.1.1 33))) kX5_procedure_c0.2.2.2.1 zs_X5_276 ?_
  obtain ⟨p3, hxp3, hlp3, h⟩ := h
  refine kz_nz1 (x := x1) hxp3 ?_
  refine kz_pfp (M := kt_M201) (n := some (E.1.1 33)) (c := 14) (o := p3) kX5_procedure_c0.2.2.2.2.1 wq_X5_214 (.inr (by exact hlp3)) ?_
  refine kz_aload_nv (M := kt_M201) (x := x1) kX5_procedure_c0.2.2.2.2.2.1 rfl ?_
  refine kz_aload_n (M := kt_M201) kX5_procedure_c0.2.2.2.2.2.2.1 rfl ?_
  refine kz_cv1 (M := kt_M201) (c := 4) (o := 0) (As := []) (rest := [va_rf (x1)]) kX5_procedure_c0.2.2.2.2.2.2.2.1 wl_X5_237 wMv_193 rfl (.inl rfl) rfl (Nat.le_trans (Nat.le_of_ble_eq_true rfl) hL) (Nat.le_of_ble_eq_true rfl) (by simp [kx_cat, w_cat, z_ci, z_cr, z_cl, z_cn]) h (fun v5 w4 hle h => ?_) (fun _ _ _ h => kzx_no rfl h)
  have h := h hle
  have hlp3 := w_l_le hlp3 hle
  refine kz_nz1 (x := x1) hxp3 ?_
  refine kz_pfi (M := kt_M201) (c := 14) (o := p3) kX5_procedure_c1.1 wq_X5_240 (.inr (by exact hlp3)) ?_
  refine kz_aload_n (M := kt_M201) kX5_procedure_c1.2.1 rfl ?_
  refine kz_dup (M := kt_M201) kX5_procedure_c1.2.2.1 rfl ?_
  refine kz_gfiR (M := kt_M201) (c := 4) (o := 0) (w_i w4 4 0 5) kX5_procedure_c1.2.2.2.1 wf_X5_130 (.inl rfl) (rd_i_i rfl) ?_
  refine kz_ic (M := kt_M201) 1 kX5_procedure_c1.2.2.2.2.1 rfl ?_
  refine kz_iadd (M := kt_M201) kX5_procedure_c1.2.2.2.2.2.1 ?_
  refine kz_pfi (M := kt_M201) (c := 4) (o := 0) kX5_procedure_c1.2.2.2.2.2.2.1 wq_X5_130 (.inl rfl) ?_
  refine kz_aload_nv (M := kt_M201) (x := x1) kX5_procedure_c1.2.2.2.2.2.2.2.1 rfl ?_
  refine kz_aload_n (M := kt_M201) kX5_procedure_c2.1 rfl ?_
  refine kz_cvr (M := kt_M201) (c := 4) (o := 0) (As := []) (rest := [va_rf (x1)]) kX5_procedure_c2.2.1 wl_X5_279 wMv_179 rfl (.inl rfl) rfl (Nat.le_trans (Nat.le_of_ble_eq_true rfl) hL) (Nat.le_of_ble_eq_true rfl) (by simp [kx_cat, w_cat, z_ci, z_cr, z_cl, z_cn]) h (fun v7 w6 hle h => ?_) (fun _ _ _ h => kzx_no rfl h)
  have h := h hle
  have hlp3 := w_l_le hlp3 hle
  refine kz_nz1 (x := x1) hxp3 ?_
  refine kz_pfp (M := kt_M201) (n := v7) (c := 14) (o := p3) kX5_procedure_c2.2.2.1 wq_X5_162 (.inr (by exact hlp3)) ?_
  refine kz_aload_n (M := kt_M201) kX5_procedure_c2.2.2.2.1 rfl ?_
  refine kz_cv0 (M := kt_M201) (c := 4) (o := 0) (As := []) (rest := []) kX5_procedure_c2.2.2.2.2.1 wl_X5_229 wMv_174 rfl (.inl rfl) rfl (Nat.le_trans (Nat.le_of_ble_eq_true rfl) hL) (Nat.le_of_ble_eq_true rfl) (Nat.le_of_ble_eq_true rfl) h (fun w8 hle h => ?_) (fun _ _ _ h => kzx_no rfl h)
  have h := h hle
  have hlp3 := w_l_le hlp3 hle
  refine kz_aload_nv (M := kt_M201) (x := x1) kX5_procedure_c2.2.2.2.2.2.1 rfl ?_
  refine kz_aload_n (M := kt_M201) kX5_procedure_c2.2.2.2.2.2.2.1 rfl ?_
  refine kz_iload_n (M := kt_M201) kX5_procedure_c2.2.2.2.2.2.2.2.1 rfl ?_
  refine kz_ic (M := kt_M201) 1 kX5_procedure_c3.1 rfl ?_
  refine kz_iadd (M := kt_M201) kX5_procedure_c3.2.1 ?_
  refine kz_cvr (M := kt_M201) (c := 4) (o := 0) (As := [.int (x2 + 1)]) (rest := [va_rf (x1)]) kX5_procedure_c3.2.2.1 wl_X5_133 wMv_202 rfl (.inl rfl) rfl (Nat.le_trans (Nat.le_of_ble_eq_true rfl) hL) (Nat.le_of_ble_eq_true rfl) (by simp [kx_cat, w_cat, z_ci, z_cr, z_cl, z_cn]) h (fun v11 w10 hle h => ?_) (fun _ _ _ h => kzx_no rfl h)
  have h := h hle
  have hlp3 := w_l_le hlp3 hle
  refine kz_nz1 (x := x1) hxp3 ?_
  refine kz_pfp (M := kt_M201) (n := v11) (c := 14) (o := p3) kX5_procedure_c3.2.2.2.1 wq_X5_168 (.inr (by exact hlp3)) ?_
  refine kz_aload_n (M := kt_M201) kX5_procedure_c3.2.2.2.2.1 rfl ?_
  refine kz_iload_n (M := kt_M201) kX5_procedure_c3.2.2.2.2.2.1 rfl ?_
  refine kz_cv0 (M := kt_M201) (c := 4) (o := 0) (As := [.int x2]) (rest := []) kX5_procedure_c3.2.2.2.2.2.2.1 wl_X5_273 wMv_170 rfl (.inl rfl) rfl (Nat.le_trans (Nat.le_of_ble_eq_true rfl) hL) (Nat.le_of_ble_eq_true rfl) (Nat.le_of_ble_eq_true rfl) h (fun w12 hle h => ?_) (fun _ _ _ h => kzx_no rfl h)
  have h := h hle
  have hlp3 := w_l_le hlp3 hle
  exact kz_ret (M := kt_M201) kX5_procedure_c3.2.2.2.2.2.2.2.1 rfl h
def zb_X5_action_p415 (E : zE) (L : Nat) (Q : kx_Rs → wS → Prop) (x2 : Option Nat) (w : wS) : Prop := Q (.inl (some (va_rf (x2)))) w
theorem zt_X5_action_p415 {E : zE} {L : Nat} {Q : kx_Rs → wS → Prop} {x2 : Option Nat} {w : wS} (hL : 28 ≤ L) (h : zb_X5_action_p415 E L Q x2 w) : kzE E L kt_M160 415 [(0, .ref (w_adr E.2.1 4 0)), (2, va_rf (x2))] [] w Q := by
  unfold zb_X5_action_p415 at h
  refine kz_aload_nv (M := kt_M160) (x := x2) kX5_action_c16.2.2.2.1 rfl ?_
  exact kz_areto (x := x2) (M := kt_M160) kX5_action_c16.2.2.2.2.1 rfl h
def zb_X5_action_p294 (E : zE) (L : Nat) (Q : kx_Rs → wS → Prop) (x2 : Option Nat) (y0 : Int32) (y1 : Int32) (y3 : Option Nat) (w : wS) : Prop := zw E (L - 24) kt_M203 [.ref (w_adr E.2.1 4 0), .int y1, .int y0] w (wkr (fun v2 w1 => wle w w1 → (∃ p3, y3 = some p3 ∧ w_l w1 E.2.1 14 p3 ∧ zb_X5_action_p415 E L Q x2 (ws_p w1 14 p3 4 v2))) (fun e w => Q (.inr e) w))
theorem zt_X5_action_p294 {E : zE} {L : Nat} {Q : kx_Rs → wS → Prop} {x2 : Option Nat} {y0 : Int32} {y1 : Int32} {y3 : Option Nat} {w : wS} (hL : 28 ≤ L) (h : zb_X5_action_p294 E L Q x2 y0 y1 y3 w) : kzE E L kt_M160 294 [(0, .ref (w_adr E.2.1 4 0)), (2, va_rf (x2))] [.int y0, .int y1, .ref (w_adr E.2.1 4 0), va_rf (y3)] w Q := by
  unfold zb_X5_action_p294 at h
  refine kz_cvr (M := kt_M160) (c := 4) (o := 0) (As := [.int y1, .int y0]) (rest := [va_rf (y3)]) kX5_action_c9.1 wl_X5_318 wMv_203 rfl (.inl rfl) rfl (Nat.le_trans (Nat.le_of_ble_eq_true rfl) hL) (Nat.le_of_ble_eq_true rfl) (by simp [kx_cat, w_cat, z_ci, z_cr, z_cl, z_cn]) h (fun v2 w1 hle h => ?_) (fun _ _ _ h => kzx_no rfl h)
  have h := h hle
  obtain ⟨p3, hxp3, hlp3, h⟩ := h
  refine kz_nz1 (x := y3) hxp3 ?_
  refine kz_pfp (M := kt_M160) (n := v2) (c := 14) (o := p3) kX5_action_c9.2.1 wq_X5_168 (.inr (by exact hlp3)) ?_
  refine kz_goto (M := kt_M160) kX5_action_c9.2.2.1 (t := 415) rfl ?_
  exact kz_weak [(0, .ref (w_adr E.2.1 4 0)), (2, va_rf (x2))] ⟨rfl, ⟨rfl, trivial⟩⟩ rfl (zt_X5_action_p415 hL  h)
def zb_X5_action_p258 (E : zE) (L : Nat) (Q : kx_Rs → wS → Prop) (x1 : Int32) (x2 : Option Nat) (y0 : Option Nat) (y1 : Option Nat) (w : wS) : Prop := (∃ p1, y1 = some p1 ∧ w_l w E.2.1 14 p1 ∧ zw E (L - 20) kt_M195 [.ref (w_adr E.2.1 4 0)] (ws_p w 14 p1 0 y0) (wk0 (fun w2 => wle (ws_p w 14 p1 0 y0) w2 → zw E (L - 21) kt_M206 [.ref (w_adr E.2.1 4 0)] w2 (wkr (fun v5 w4 => wle w2 w4 → (∃ p6, x2 = some p6 ∧ w_l w4 E.2.1 14 p6 ∧ zw E (L - 20) kt_M174 [.ref (w_adr E.2.1 4 0)] (ws_p w4 14 p6 3 v5) (wk0 (fun w7 => wle (ws_p w4 14 p6 3 v5) w7 → (if (w_p w7 14 p6 3) = none then zb_X5_action_p294 E L Q x2 0 (x1 + 1) x2 w7 else zb_X5_action_p294 E L Q x2 1 (x1 + 1) x2 w7)) (fun e w => Q (.inr e) w)))) (fun e w => Q (.inr e) w))) (fun e w => Q (.inr e) w)))
theorem zt_X5_action_p258 {E : zE} {L : Nat} {Q : kx_Rs → wS → Prop} {x1 : Int32} {x2 : Option Nat} {y0 : Option Nat} {y1 : Option Nat} {w : wS} (hL : 28 ≤ L) (h : zb_X5_action_p258 E L Q x1 x2 y0 y1 w) : kzE E L kt_M160 258 [(0, .ref (w_adr E.2.1 4 0)), (1, .int x1), (2, va_rf (x2))] [va_rf (y0), va_rf (y1)] w Q := by
  unfold zb_X5_action_p258 at h
  obtain ⟨p1, hxp1, hlp1, h⟩ := h
  refine kz_nz1 (x := y1) hxp1 ?_
  refine kz_pfp (M := kt_M160) (n := y0) (c := 14) (o := p1) kX5_action_c6.2.2.2.2.1 wq_X5_214 (.inr (by exact hlp1)) ?_
  refine kz_aload_n (M := kt_M160) kX5_action_c6.2.2.2.2.2.1 rfl ?_
  refine kz_cv0 (M := kt_M160) (c := 4) (o := 0) (As := []) (rest := []) kX5_action_c6.2.2.2.2.2.2.1 wl_X5_85 wMv_195 rfl (.inl rfl) rfl (Nat.le_trans (Nat.le_of_ble_eq_true rfl) hL) (Nat.le_of_ble_eq_true rfl) (Nat.le_of_ble_eq_true rfl) h (fun w2 hle h => ?_) (fun _ _ _ h => kzx_no rfl h)
  have h := h hle
  have hlp1 := w_l_le hlp1 hle
  refine kz_aload_nv (M := kt_M160) (x := x2) kX5_action_c6.2.2.2.2.2.2.2.1 rfl ?_
  refine kz_aload_n (M := kt_M160) kX5_action_c7.1 rfl ?_
  refine kz_cvr (M := kt_M160) (c := 4) (o := 0) (As := []) (rest := [va_rf (x2)]) kX5_action_c7.2.1 wl_X5_315 wMv_206 rfl (.inl rfl) rfl (Nat.le_trans (Nat.le_of_ble_eq_true rfl) hL) (Nat.le_of_ble_eq_true rfl) (by simp [kx_cat, w_cat, z_ci, z_cr, z_cl, z_cn]) h (fun v5 w4 hle h => ?_) (fun _ _ _ h => kzx_no rfl h)
  have h := h hle
  have hlp1 := w_l_le hlp1 hle
  obtain ⟨p6, hxp6, hlp6, h⟩ := h
  refine kz_nz1 (x := x2) hxp6 ?_
  refine kz_pfp (M := kt_M160) (n := v5) (c := 14) (o := p6) kX5_action_c7.2.2.1 wq_X5_162 (.inr (by exact hlp6)) ?_
  refine kz_aload_n (M := kt_M160) kX5_action_c7.2.2.2.1 rfl ?_
  refine kz_cv0 (M := kt_M160) (c := 4) (o := 0) (As := []) (rest := []) kX5_action_c7.2.2.2.2.1 wl_X5_229 wMv_174 rfl (.inl rfl) rfl (Nat.le_trans (Nat.le_of_ble_eq_true rfl) hL) (Nat.le_of_ble_eq_true rfl) (Nat.le_of_ble_eq_true rfl) h (fun w7 hle h => ?_) (fun _ _ _ h => kzx_no rfl h)
  have h := h hle
  have hlp1 := w_l_le hlp1 hle
  have hlp6 := w_l_le hlp6 hle
  refine kz_aload_nv (M := kt_M160) (x := x2) kX5_action_c7.2.2.2.2.2.1 rfl ?_
  refine kz_aload_n (M := kt_M160) kX5_action_c7.2.2.2.2.2.2.1 rfl ?_
  refine kz_iload_n (M := kt_M160) kX5_action_c7.2.2.2.2.2.2.2.1 rfl ?_
  refine kz_ic (M := kt_M160) 1 kX5_action_c8.1 rfl ?_
  refine kz_iadd (M := kt_M160) kX5_action_c8.2.1 ?_
  refine kz_aload_nv (M := kt_M160) (x := x2) kX5_action_c8.2.2.1 rfl ?_
  refine kz_nz0 (x := x2) hxp6 ?_
  refine kz_gfp (M := kt_M160) (c := 14) (o := p6) kX5_action_c8.2.2.2.1 wf_X5_162 (.inr (by exact hlp6)) ?_
  refine kz_ifnull (M := kt_M160) (x := w_p w7 14 p6 3) kX5_action_c8.2.2.2.2.1 (t := 293) rfl h (fun h => ?_) (fun h => ?_)
  · skip
    refine kz_ic (M := kt_M160) 0 kX5_action_c8.2.2.2.2.2.2.2.1 rfl ?_
    exact kz_weak [(0, .ref (w_adr E.2.1 4 0)), (2, va_rf (x2))] ⟨rfl, ⟨rfl, trivial⟩⟩ rfl (zt_X5_action_p294 hL  h)
  · skip
    refine kz_ic (M := kt_M160) 1 kX5_action_c8.2.2.2.2.2.1 rfl ?_
    refine kz_goto (M := kt_M160) kX5_action_c8.2.2.2.2.2.2.1 (t := 294) rfl ?_
    exact kz_weak [(0, .ref (w_adr E.2.1 4 0)), (2, va_rf (x2))] ⟨rfl, ⟨rfl, trivial⟩⟩ rfl (zt_X5_action_p294 hL  h)
def zb_X5_action_p228 (E : zE) (L : Nat) (Q : kx_Rs → wS → Prop) (x2 : Option Nat) (y0 : Option Nat) (y1 : Option Nat) (w : wS) : Prop := (∃ p1, y1 = some p1 ∧ w_l w E.2.1 14 p1 ∧ zw E (L - 20) kt_M195 [.ref (w_adr E.2.1 4 0)] (ws_p w 14 p1 0 y0) (wk0 (fun w2 => wle (ws_p w 14 p1 0 y0) w2 → zw E (L - 20) kt_M174 [.ref (w_adr E.2.1 4 0)] w2 (wk0 (fun w4 => wle w2 w4 → zb_X5_action_p415 E L Q x2 w4) (fun e w => Q (.inr e) w))) (fun e w => Q (.inr e) w)))
theorem zt_X5_action_p228 {E : zE} {L : Nat} {Q : kx_Rs → wS → Prop} {x2 : Option Nat} {y0 : Option Nat} {y1 : Option Nat} {w : wS} (hL : 28 ≤ L) (h : zb_X5_action_p228 E L Q x2 y0 y1 w) : kzE E L kt_M160 228 [(0, .ref (w_adr E.2.1 4 0)), (2, va_rf (x2))] [va_rf (y0), va_rf (y1)] w Q := by
  unfold zb_X5_action_p228 at h
  obtain ⟨p1, hxp1, hlp1, h⟩ := h
  refine kz_nz1 (x := y1) hxp1 ?_
  refine kz_pfp (M := kt_M160) (n := y0) (c := 14) (o := p1) kX5_action_c4.2.2.2.2.2.2.2.1 wq_X5_214 (.inr (by exact hlp1)) ?_
  refine kz_aload_n (M := kt_M160) kX5_action_c5.1 rfl ?_
  refine kz_cv0 (M := kt_M160) (c := 4) (o := 0) (As := []) (rest := []) kX5_action_c5.2.1 wl_X5_85 wMv_195 rfl (.inl rfl) rfl (Nat.le_trans (Nat.le_of_ble_eq_true rfl) hL) (Nat.le_of_ble_eq_true rfl) (Nat.le_of_ble_eq_true rfl) h (fun w2 hle h => ?_) (fun _ _ _ h => kzx_no rfl h)
  have h := h hle
  have hlp1 := w_l_le hlp1 hle
  refine kz_aload_n (M := kt_M160) kX5_action_c5.2.2.1 rfl ?_
  refine kz_cv0 (M := kt_M160) (c := 4) (o := 0) (As := []) (rest := []) kX5_action_c5.2.2.2.1 wl_X5_229 wMv_174 rfl (.inl rfl) rfl (Nat.le_trans (Nat.le_of_ble_eq_true rfl) hL) (Nat.le_of_ble_eq_true rfl) (Nat.le_of_ble_eq_true rfl) h (fun w4 hle h => ?_) (fun _ _ _ h => kzx_no rfl h)
  have h := h hle
  have hlp1 := w_l_le hlp1 hle
  refine kz_goto (M := kt_M160) kX5_action_c5.2.2.2.2.1 (t := 415) rfl ?_
  exact kz_weak [(0, .ref (w_adr E.2.1 4 0)), (2, va_rf (x2))] ⟨rfl, ⟨rfl, trivial⟩⟩ rfl (zt_X5_action_p415 hL  h)
def zb_X5_action_p45 (E : zE) (L : Nat) (Q : kx_Rs → wS → Prop) (x1 : Int32) (x2 : Option Nat) (w : wS) : Prop := (kx_inb (w_i w 4 0 3) (w_n w 1 0 3) = true ∧ (if w_a w 1 0 3 (w_i w 4 0 3).toNatClampNeg = 1 then zw E (L - 24) kt_M161 [.ref (w_adr E.2.1 4 0), va_rf (x2), .int x1] w (wk0 (fun w1 => wle w w1 → zb_X5_action_p415 E L Q x2 w1) (fun e w => Q (.inr e) w)) else (if w_a w 1 0 3 (w_i w 4 0 3).toNatClampNeg = 5 then (∃ p3, x2 = some p3 ∧ w_l w E.2.1 14 p3 ∧ zw E (L - 20) kt_M195 [.ref (w_adr E.2.1 4 0)] (ws_p w 14 p3 0 (some (E.1.1 48))) (wk0 (fun w4 => wle (ws_p w 14 p3 0 (some (E.1.1 48))) w4 → zw E (L - 22) kt_M177 [.ref (w_adr E.2.1 4 0)] w4 (wkr (fun v7 w6 => wle w4 w6 → zw E (L - 20) kt_M174 [.ref (w_adr E.2.1 4 0)] (ws_p w6 14 p3 3 v7) (wk0 (fun w8 => wle (ws_p w6 14 p3 3 v7) w8 → zw E (L - 23) kt_M199 [.ref (w_adr E.2.1 4 0), .int x1] w8 (wkr (fun v11 w10 => wle w8 w10 → zb_X5_action_p415 E L Q x2 (ws_p w10 14 p3 4 v11)) (fun e w => Q (.inr e) w))) (fun e w => Q (.inr e) w))) (fun e w => Q (.inr e) w))) (fun e w => Q (.inr e) w))) else (if w_a w 1 0 3 (w_i w 4 0 3).toNatClampNeg = 11 then (∃ p12, x2 = some p12 ∧ w_l w E.2.1 14 p12 ∧ zw E (L - 20) kt_M195 [.ref (w_adr E.2.1 4 0)] (ws_p w 14 p12 0 (some (E.1.1 46))) (wk0 (fun w13 => wle (ws_p w 14 p12 0 (some (E.1.1 46))) w13 → zw E (L - 20) kt_M174 [.ref (w_adr E.2.1 4 0)] w13 (wk0 (fun w15 => wle w13 w15 → zw E (L - 23) kt_M169 [.ref (w_adr E.2.1 4 0), .int x1] w15 (wkr (fun v18 w17 => wle w15 w17 → zb_X5_action_p415 E L Q x2 (ws_p w17 14 p12 4 v18)) (fun e w => Q (.inr e) w))) (fun e w => Q (.inr e) w))) (fun e w => Q (.inr e) w))) else (if w_a w 1 0 3 (w_i w 4 0 3).toNatClampNeg = 20 then (if ¬ w_a w 1 0 3 (w_i w 4 0 3).toNatClampNeg = 26 then zb_X5_action_p258 E L Q x1 x2 (some (E.1.1 44)) x2 w else zb_X5_action_p258 E L Q x1 x2 (some (E.1.1 43)) x2 w) else (if w_a w 1 0 3 (w_i w 4 0 3).toNatClampNeg = 22 then zw E (L - 24) kt_M161 [.ref (w_adr E.2.1 4 0), va_rf (x2), .int x1] w (wk0 (fun w19 => wle w w19 → zb_X5_action_p415 E L Q x2 w19) (fun e w => Q (.inr e) w)) else (if w_a w 1 0 3 (w_i w 4 0 3).toNatClampNeg = 26 then (if ¬ w_a w 1 0 3 (w_i w 4 0 3).toNatClampNeg = 26 then zb_X5_action_p258 E L Q x1 x2 (some (E.1.1 44)) x2 w else zb_X5_action_p258 E L Q x1 x2 (some (E.1.1 43)) x2 w) else (if w_a w 1 0 3 (w_i w 4 0 3).toNatClampNeg = 28 then (if ¬ w_a w 1 0 3 (w_i w 4 0 3).toNatClampNeg = 28 then zb_X5_action_p228 E L Q x2 (some (E.1.1 42)) x2 w else zb_X5_action_p228 E L Q x2 (some (E.1.1 34)) x2 w) else (if w_a w 1 0 3 (w_i w 4 0 3).toNatClampNeg = 29 then (if ¬ w_a w 1 0 3 (w_i w 4 0 3).toNatClampNeg = 28 then zb_X5_action_p228 E L Q x2 (some (E.1.1 42)) x2 w else zb_X5_action_p228 E L Q x2 (some (E.1.1 34)) x2 w) else (if w_a w 1 0 3 (w_i w 4 0 3).toNatClampNeg = 35 then (∃ p21, x2 = some p21 ∧ w_l w E.2.1 14 p21 ∧ zw E (L - 20) kt_M195 [.ref (w_adr E.2.1 4 0)] (ws_p w 14 p21 0 (some (E.1.1 50))) (wk0 (fun w22 => wle (ws_p w 14 p21 0 (some (E.1.1 50))) w22 → zw E (L - 22) kt_M177 [.ref (w_adr E.2.1 4 0)] w22 (wkr (fun v25 w24 => wle w22 w24 → zw E (L - 20) kt_M174 [.ref (w_adr E.2.1 4 0)] (ws_p w24 14 p21 3 v25) (wk0 (fun w26 => wle (ws_p w24 14 p21 3 v25) w26 → zw E (L - 23) kt_M202 [.ref (w_adr E.2.1 4 0), .int (x1 + 1)] w26 (wkr (fun v29 w28 => wle w26 w28 → zb_X5_action_p415 E L Q x2 (ws_p w28 14 p21 4 v29)) (fun e w => Q (.inr e) w))) (fun e w => Q (.inr e) w))) (fun e w => Q (.inr e) w))) (fun e w => Q (.inr e) w))) else zw E (L - 20) kt_M213 [.ref (w_adr E.2.1 4 0)] w (wk0 (fun w30 => wle w w30 → zb_X5_action_p415 E L Q x2 w30) (fun e w => Q (.inr e) w))))))))))))
theorem zt_X5_action_p45 {E : zE} {L : Nat} {Q : kx_Rs → wS → Prop} {x1 : Int32} {x2 : Option Nat} {w : wS} (hL : 28 ≤ L) (h : zb_X5_action_p45 E L Q x1 x2 w) : kzE E L kt_M160 45 [(0, .ref (w_adr E.2.1 4 0)), (1, .int x1), (2, va_rf (x2))] [] w Q := by
  unfold zb_X5_action_p45 at h
  refine kz_aload_n (M := kt_M160) kX5_action_c2.2.2.2.2.2.2.2.1 rfl ?_
  refine kz_gfc (M := kt_M160) (x := 4) (c := 4) (o := 0) kX5_action_c3.1 wf_X5_9 (.inl rfl) ?_
  refine kz_gfc (M := kt_M160) (x := 1259) (c := 1) (o := 0) kX5_action_c3.2.1 wf_X5_67 (.inl rfl) ?_
  refine kz_aload_n (M := kt_M160) kX5_action_c3.2.2.1 rfl ?_
  refine kz_gfi (M := kt_M160) (c := 4) (o := 0) kX5_action_c3.2.2.2.1 wf_X5_29 (.inl rfl) ?_
  refine kz_iald (M := kt_M160) (c := 1) (o := 0) (k := 3) (a := (E.2.1 1259)) kX5_action_c3.2.2.2.2.1 ow_1_0_3 oa_1_0_3 ot_0 h (fun h => ?_)
  refine kz_sti_n (M := kt_M160) [(0, .ref (w_adr E.2.1 4 0)), (1, .int x1), (2, va_rf (x2))] kX5_action_c3.2.2.2.2.2.1 (Nat.le_of_ble_eq_true rfl) ⟨⟨rfl, rfl, .inl rfl⟩, ⟨⟨rfl, rfl, .inl rfl⟩, ⟨⟨rfl, rfl, .inr (w_cat (x2))⟩, trivial⟩⟩⟩ rfl ?_
  refine kz_iload_n (M := kt_M160) kX5_action_c3.2.2.2.2.2.2.1 rfl ?_
  refine kz_tsw (M := kt_M160) [(1, 402), (5, 330), (11, 303), (20, 242), (22, 402), (26, 242), (28, 212), (29, 212), (35, 365)] [_, _, _, _, _, _, _, _, _] 411 dX5_action_p59 (by decide +kernel) h ⟨fun h => ?_, fun h => ?_, fun h => ?_, fun h => ?_, fun h => ?_, fun h => ?_, fun h => ?_, fun h => ?_, fun h => ?_, trivial⟩ (fun h => ?_)
  · skip
    refine kz_aload_n (M := kt_M160) kX5_action_c15.2.2.2.2.1 rfl ?_
    refine kz_aload_nv (M := kt_M160) (x := x2) kX5_action_c15.2.2.2.2.2.1 rfl ?_
    refine kz_iload_n (M := kt_M160) kX5_action_c15.2.2.2.2.2.2.1 rfl ?_
    refine kz_cv0 (M := kt_M160) (c := 4) (o := 0) (As := [va_rf (x2), .int x1]) (rest := []) kX5_action_c15.2.2.2.2.2.2.2.1 wl_X5_337 wMv_161 rfl (.inl rfl) rfl (Nat.le_trans (Nat.le_of_ble_eq_true rfl) hL) (by simp [lg_sl, w_cat, z_ci, z_cr, z_cl, z_cn, kt_M161]) (Nat.le_of_ble_eq_true rfl) h (fun w1 hle h => ?_) (fun _ _ _ h => kzx_no rfl h)
    have h := h hle
    refine kz_goto (M := kt_M160) kX5_action_c16.1 (t := 415) rfl ?_
    exact kz_weak [(0, .ref (w_adr E.2.1 4 0)), (2, va_rf (x2))] ⟨rfl, ⟨rfl, trivial⟩⟩ rfl (zt_X5_action_p415 hL  h)
  · skip
    refine kz_aload_nv (M := kt_M160) (x := x2) kX5_action_c11.1 rfl ?_
    refine kz_getsE (M := kt_M160) (v := va_rf (some (E.1.1 48))) kX5_action_c11.2.1 zs_X5_328 ?_
    obtain ⟨p3, hxp3, hlp3, h⟩ := h
    refine kz_nz1 (x := x2) hxp3 ?_
    refine kz_pfp (M := kt_M160) (n := some (E.1.1 48)) (c := 14) (o := p3) kX5_action_c11.2.2.1 wq_X5_214 (.inr (by exact hlp3)) ?_
    refine kz_aload_n (M := kt_M160) kX5_action_c11.2.2.2.1 rfl ?_
    refine kz_cv0 (M := kt_M160) (c := 4) (o := 0) (As := []) (rest := []) kX5_action_c11.2.2.2.2.1 wl_X5_85 wMv_195 rfl (.inl rfl) rfl (Nat.le_trans (Nat.le_of_ble_eq_true rfl) hL) (Nat.le_of_ble_eq_true rfl) (Nat.le_of_ble_eq_true rfl) h (fun w4 hle h => ?_) (fun _ _ _ h => kzx_no rfl h)
    have h := h hle
    have hlp3 := w_l_le hlp3 hle
    refine kz_aload_nv (M := kt_M160) (x := x2) kX5_action_c11.2.2.2.2.2.1 rfl ?_
    refine kz_aload_n (M := kt_M160) kX5_action_c11.2.2.2.2.2.2.1 rfl ?_
    refine kz_cvr (M := kt_M160) (c := 4) (o := 0) (As := []) (rest := [va_rf (x2)]) kX5_action_c11.2.2.2.2.2.2.2.1 wl_X5_194 wMv_177 rfl (.inl rfl) rfl (Nat.le_trans (Nat.le_of_ble_eq_true rfl) hL) (Nat.le_of_ble_eq_true rfl) (by simp [kx_cat, w_cat, z_ci, z_cr, z_cl, z_cn]) h (fun v7 w6 hle h => ?_) (fun _ _ _ h => kzx_no rfl h)
    have h := h hle
    have hlp3 := w_l_le hlp3 hle
    refine kz_nz1 (x := x2) hxp3 ?_
    refine kz_pfp (M := kt_M160) (n := v7) (c := 14) (o := p3) kX5_action_c12.1 wq_X5_162 (.inr (by exact hlp3)) ?_
    refine kz_aload_n (M := kt_M160) kX5_action_c12.2.1 rfl ?_
    refine kz_cv0 (M := kt_M160) (c := 4) (o := 0) (As := []) (rest := []) kX5_action_c12.2.2.1 wl_X5_229 wMv_174 rfl (.inl rfl) rfl (Nat.le_trans (Nat.le_of_ble_eq_true rfl) hL) (Nat.le_of_ble_eq_true rfl) (Nat.le_of_ble_eq_true rfl) h (fun w8 hle h => ?_) (fun _ _ _ h => kzx_no rfl h)
    have h := h hle
    have hlp3 := w_l_le hlp3 hle
    refine kz_aload_nv (M := kt_M160) (x := x2) kX5_action_c12.2.2.2.1 rfl ?_
    refine kz_aload_n (M := kt_M160) kX5_action_c12.2.2.2.2.1 rfl ?_
    refine kz_iload_n (M := kt_M160) kX5_action_c12.2.2.2.2.2.1 rfl ?_
    refine kz_cvr (M := kt_M160) (c := 4) (o := 0) (As := [.int x1]) (rest := [va_rf (x2)]) kX5_action_c12.2.2.2.2.2.2.1 wl_X5_331 wMv_199 rfl (.inl rfl) rfl (Nat.le_trans (Nat.le_of_ble_eq_true rfl) hL) (Nat.le_of_ble_eq_true rfl) (by simp [kx_cat, w_cat, z_ci, z_cr, z_cl, z_cn]) h (fun v11 w10 hle h => ?_) (fun _ _ _ h => kzx_no rfl h)
    have h := h hle
    have hlp3 := w_l_le hlp3 hle
    refine kz_nz1 (x := x2) hxp3 ?_
    refine kz_pfp (M := kt_M160) (n := v11) (c := 14) (o := p3) kX5_action_c12.2.2.2.2.2.2.2.1 wq_X5_168 (.inr (by exact hlp3)) ?_
    refine kz_goto (M := kt_M160) kX5_action_c13.1 (t := 415) rfl ?_
    exact kz_weak [(0, .ref (w_adr E.2.1 4 0)), (2, va_rf (x2))] ⟨rfl, ⟨rfl, trivial⟩⟩ rfl (zt_X5_action_p415 hL  h)
  · skip
    refine kz_aload_nv (M := kt_M160) (x := x2) kX5_action_c9.2.2.2.1 rfl ?_
    refine kz_getsE (M := kt_M160) (v := va_rf (some (E.1.1 46))) kX5_action_c9.2.2.2.2.1 zs_X5_322 ?_
    obtain ⟨p12, hxp12, hlp12, h⟩ := h
    refine kz_nz1 (x := x2) hxp12 ?_
    refine kz_pfp (M := kt_M160) (n := some (E.1.1 46)) (c := 14) (o := p12) kX5_action_c9.2.2.2.2.2.1 wq_X5_214 (.inr (by exact hlp12)) ?_
    refine kz_aload_n (M := kt_M160) kX5_action_c9.2.2.2.2.2.2.1 rfl ?_
    refine kz_cv0 (M := kt_M160) (c := 4) (o := 0) (As := []) (rest := []) kX5_action_c9.2.2.2.2.2.2.2.1 wl_X5_85 wMv_195 rfl (.inl rfl) rfl (Nat.le_trans (Nat.le_of_ble_eq_true rfl) hL) (Nat.le_of_ble_eq_true rfl) (Nat.le_of_ble_eq_true rfl) h (fun w13 hle h => ?_) (fun _ _ _ h => kzx_no rfl h)
    have h := h hle
    have hlp12 := w_l_le hlp12 hle
    refine kz_aload_n (M := kt_M160) kX5_action_c10.1 rfl ?_
    refine kz_cv0 (M := kt_M160) (c := 4) (o := 0) (As := []) (rest := []) kX5_action_c10.2.1 wl_X5_229 wMv_174 rfl (.inl rfl) rfl (Nat.le_trans (Nat.le_of_ble_eq_true rfl) hL) (Nat.le_of_ble_eq_true rfl) (Nat.le_of_ble_eq_true rfl) h (fun w15 hle h => ?_) (fun _ _ _ h => kzx_no rfl h)
    have h := h hle
    have hlp12 := w_l_le hlp12 hle
    refine kz_aload_nv (M := kt_M160) (x := x2) kX5_action_c10.2.2.1 rfl ?_
    refine kz_aload_n (M := kt_M160) kX5_action_c10.2.2.2.1 rfl ?_
    refine kz_iload_n (M := kt_M160) kX5_action_c10.2.2.2.2.1 rfl ?_
    refine kz_cvr (M := kt_M160) (c := 4) (o := 0) (As := [.int x1]) (rest := [va_rf (x2)]) kX5_action_c10.2.2.2.2.2.1 wl_X5_325 wMv_169 rfl (.inl rfl) rfl (Nat.le_trans (Nat.le_of_ble_eq_true rfl) hL) (Nat.le_of_ble_eq_true rfl) (by simp [kx_cat, w_cat, z_ci, z_cr, z_cl, z_cn]) h (fun v18 w17 hle h => ?_) (fun _ _ _ h => kzx_no rfl h)
    have h := h hle
    have hlp12 := w_l_le hlp12 hle
    refine kz_nz1 (x := x2) hxp12 ?_
    refine kz_pfp (M := kt_M160) (n := v18) (c := 14) (o := p12) kX5_action_c10.2.2.2.2.2.2.1 wq_X5_168 (.inr (by exact hlp12)) ?_
    refine kz_goto (M := kt_M160) kX5_action_c10.2.2.2.2.2.2.2.1 (t := 415) rfl ?_
    exact kz_weak [(0, .ref (w_adr E.2.1 4 0)), (2, va_rf (x2))] ⟨rfl, ⟨rfl, trivial⟩⟩ rfl (zt_X5_action_p415 hL  h)
  · skip
    refine kz_aload_nv (M := kt_M160) (x := x2) kX5_action_c5.2.2.2.2.2.1 rfl ?_
    refine kz_iload_n (M := kt_M160) kX5_action_c5.2.2.2.2.2.2.1 rfl ?_
    refine kz_bi (M := kt_M160) 26 kX5_action_c5.2.2.2.2.2.2.2.1 rfl ?_
    refine kz_icmp_ne (M := kt_M160) kX5_action_c6.1 (t := 255) rfl h (fun h => ?_) (fun h => ?_)
    · skip
      refine kz_getsE (M := kt_M160) (v := va_rf (some (E.1.1 44))) kX5_action_c6.2.2.2.1 zs_X5_312 ?_
      exact kz_weak [(0, .ref (w_adr E.2.1 4 0)), (1, .int x1), (2, va_rf (x2))] ⟨rfl, ⟨rfl, ⟨rfl, trivial⟩⟩⟩ rfl (zt_X5_action_p258 hL  h)
    · skip
      refine kz_getsE (M := kt_M160) (v := va_rf (some (E.1.1 43))) kX5_action_c6.2.1 zs_X5_309 ?_
      refine kz_goto (M := kt_M160) kX5_action_c6.2.2.1 (t := 258) rfl ?_
      exact kz_weak [(0, .ref (w_adr E.2.1 4 0)), (1, .int x1), (2, va_rf (x2))] ⟨rfl, ⟨rfl, ⟨rfl, trivial⟩⟩⟩ rfl (zt_X5_action_p258 hL  h)
  · skip
    refine kz_aload_n (M := kt_M160) kX5_action_c15.2.2.2.2.1 rfl ?_
    refine kz_aload_nv (M := kt_M160) (x := x2) kX5_action_c15.2.2.2.2.2.1 rfl ?_
    refine kz_iload_n (M := kt_M160) kX5_action_c15.2.2.2.2.2.2.1 rfl ?_
    refine kz_cv0 (M := kt_M160) (c := 4) (o := 0) (As := [va_rf (x2), .int x1]) (rest := []) kX5_action_c15.2.2.2.2.2.2.2.1 wl_X5_337 wMv_161 rfl (.inl rfl) rfl (Nat.le_trans (Nat.le_of_ble_eq_true rfl) hL) (by simp [lg_sl, w_cat, z_ci, z_cr, z_cl, z_cn, kt_M161]) (Nat.le_of_ble_eq_true rfl) h (fun w19 hle h => ?_) (fun _ _ _ h => kzx_no rfl h)
    have h := h hle
    refine kz_goto (M := kt_M160) kX5_action_c16.1 (t := 415) rfl ?_
    exact kz_weak [(0, .ref (w_adr E.2.1 4 0)), (2, va_rf (x2))] ⟨rfl, ⟨rfl, trivial⟩⟩ rfl (zt_X5_action_p415 hL  h)
  · skip
    refine kz_aload_nv (M := kt_M160) (x := x2) kX5_action_c5.2.2.2.2.2.1 rfl ?_
    refine kz_iload_n (M := kt_M160) kX5_action_c5.2.2.2.2.2.2.1 rfl ?_
    refine kz_bi (M := kt_M160) 26 kX5_action_c5.2.2.2.2.2.2.2.1 rfl ?_
    refine kz_icmp_ne (M := kt_M160) kX5_action_c6.1 (t := 255) rfl h (fun h => ?_) (fun h => ?_)
    · skip
      refine kz_getsE (M := kt_M160) (v := va_rf (some (E.1.1 44))) kX5_action_c6.2.2.2.1 zs_X5_312 ?_
      exact kz_weak [(0, .ref (w_adr E.2.1 4 0)), (1, .int x1), (2, va_rf (x2))] ⟨rfl, ⟨rfl, ⟨rfl, trivial⟩⟩⟩ rfl (zt_X5_action_p258 hL  h)
    · skip
      refine kz_getsE (M := kt_M160) (v := va_rf (some (E.1.1 43))) kX5_action_c6.2.1 zs_X5_309 ?_
      refine kz_goto (M := kt_M160) kX5_action_c6.2.2.1 (t := 258) rfl ?_
      exact kz_weak [(0, .ref (w_adr E.2.1 4 0)), (1, .int x1), (2, va_rf (x2))] ⟨rfl, ⟨rfl, ⟨rfl, trivial⟩⟩⟩ rfl (zt_X5_action_p258 hL  h)
  · skip
    refine kz_aload_nv (M := kt_M160) (x := x2) kX5_action_c4.1 rfl ?_
    refine kz_iload_n (M := kt_M160) kX5_action_c4.2.1 rfl ?_
    refine kz_bi (M := kt_M160) 28 kX5_action_c4.2.2.1 rfl ?_
    refine kz_icmp_ne (M := kt_M160) kX5_action_c4.2.2.2.1 (t := 225) rfl h (fun h => ?_) (fun h => ?_)
    · skip
      refine kz_getsE (M := kt_M160) (v := va_rf (some (E.1.1 42))) kX5_action_c4.2.2.2.2.2.2.1 zs_X5_306 ?_
      exact kz_weak [(0, .ref (w_adr E.2.1 4 0)), (2, va_rf (x2))] ⟨rfl, ⟨rfl, trivial⟩⟩ rfl (zt_X5_action_p228 hL  h)
    · skip
      refine kz_getsE (M := kt_M160) (v := va_rf (some (E.1.1 34))) kX5_action_c4.2.2.2.2.1 zs_X5_300 ?_
      refine kz_goto (M := kt_M160) kX5_action_c4.2.2.2.2.2.1 (t := 228) rfl ?_
      exact kz_weak [(0, .ref (w_adr E.2.1 4 0)), (2, va_rf (x2))] ⟨rfl, ⟨rfl, trivial⟩⟩ rfl (zt_X5_action_p228 hL  h)
  · skip
    refine kz_aload_nv (M := kt_M160) (x := x2) kX5_action_c4.1 rfl ?_
    refine kz_iload_n (M := kt_M160) kX5_action_c4.2.1 rfl ?_
    refine kz_bi (M := kt_M160) 28 kX5_action_c4.2.2.1 rfl ?_
    refine kz_icmp_ne (M := kt_M160) kX5_action_c4.2.2.2.1 (t := 225) rfl h (fun h => ?_) (fun h => ?_)
    · skip
      refine kz_getsE (M := kt_M160) (v := va_rf (some (E.1.1 42))) kX5_action_c4.2.2.2.2.2.2.1 zs_X5_306 ?_
      exact kz_weak [(0, .ref (w_adr E.2.1 4 0)), (2, va_rf (x2))] ⟨rfl, ⟨rfl, trivial⟩⟩ rfl (zt_X5_action_p228 hL  h)
    · skip
      refine kz_getsE (M := kt_M160) (v := va_rf (some (E.1.1 34))) kX5_action_c4.2.2.2.2.1 zs_X5_300 ?_
      refine kz_goto (M := kt_M160) kX5_action_c4.2.2.2.2.2.1 (t := 228) rfl ?_
      exact kz_weak [(0, .ref (w_adr E.2.1 4 0)), (2, va_rf (x2))] ⟨rfl, ⟨rfl, trivial⟩⟩ rfl (zt_X5_action_p228 hL  h)
  · skip
    refine kz_aload_nv (M := kt_M160) (x := x2) kX5_action_c13.2.1 rfl ?_
    refine kz_getsE (M := kt_M160) (v := va_rf (some (E.1.1 50))) kX5_action_c13.2.2.1 zs_X5_334 ?_
    obtain ⟨p21, hxp21, hlp21, h⟩ := h
    refine kz_nz1 (x := x2) hxp21 ?_
    refine kz_pfp (M := kt_M160) (n := some (E.1.1 50)) (c := 14) (o := p21) kX5_action_c13.2.2.2.1 wq_X5_214 (.inr (by exact hlp21)) ?_
    refine kz_aload_n (M := kt_M160) kX5_action_c13.2.2.2.2.1 rfl ?_
    refine kz_cv0 (M := kt_M160) (c := 4) (o := 0) (As := []) (rest := []) kX5_action_c13.2.2.2.2.2.1 wl_X5_85 wMv_195 rfl (.inl rfl) rfl (Nat.le_trans (Nat.le_of_ble_eq_true rfl) hL) (Nat.le_of_ble_eq_true rfl) (Nat.le_of_ble_eq_true rfl) h (fun w22 hle h => ?_) (fun _ _ _ h => kzx_no rfl h)
    have h := h hle
    have hlp21 := w_l_le hlp21 hle
    refine kz_aload_nv (M := kt_M160) (x := x2) kX5_action_c13.2.2.2.2.2.2.1 rfl ?_
    refine kz_aload_n (M := kt_M160) kX5_action_c13.2.2.2.2.2.2.2.1 rfl ?_
    refine kz_cvr (M := kt_M160) (c := 4) (o := 0) (As := []) (rest := [va_rf (x2)]) kX5_action_c14.1 wl_X5_194 wMv_177 rfl (.inl rfl) rfl (Nat.le_trans (Nat.le_of_ble_eq_true rfl) hL) (Nat.le_of_ble_eq_true rfl) (by simp [kx_cat, w_cat, z_ci, z_cr, z_cl, z_cn]) h (fun v25 w24 hle h => ?_) (fun _ _ _ h => kzx_no rfl h)
    have h := h hle
    have hlp21 := w_l_le hlp21 hle
    refine kz_nz1 (x := x2) hxp21 ?_
    refine kz_pfp (M := kt_M160) (n := v25) (c := 14) (o := p21) kX5_action_c14.2.1 wq_X5_162 (.inr (by exact hlp21)) ?_
    refine kz_aload_n (M := kt_M160) kX5_action_c14.2.2.1 rfl ?_
    refine kz_cv0 (M := kt_M160) (c := 4) (o := 0) (As := []) (rest := []) kX5_action_c14.2.2.2.1 wl_X5_229 wMv_174 rfl (.inl rfl) rfl (Nat.le_trans (Nat.le_of_ble_eq_true rfl) hL) (Nat.le_of_ble_eq_true rfl) (Nat.le_of_ble_eq_true rfl) h (fun w26 hle h => ?_) (fun _ _ _ h => kzx_no rfl h)
    have h := h hle
    have hlp21 := w_l_le hlp21 hle
    refine kz_aload_nv (M := kt_M160) (x := x2) kX5_action_c14.2.2.2.2.1 rfl ?_
    refine kz_aload_n (M := kt_M160) kX5_action_c14.2.2.2.2.2.1 rfl ?_
    refine kz_iload_n (M := kt_M160) kX5_action_c14.2.2.2.2.2.2.1 rfl ?_
    refine kz_ic (M := kt_M160) 1 kX5_action_c14.2.2.2.2.2.2.2.1 rfl ?_
    refine kz_iadd (M := kt_M160) kX5_action_c15.1 ?_
    refine kz_cvr (M := kt_M160) (c := 4) (o := 0) (As := [.int (x1 + 1)]) (rest := [va_rf (x2)]) kX5_action_c15.2.1 wl_X5_133 wMv_202 rfl (.inl rfl) rfl (Nat.le_trans (Nat.le_of_ble_eq_true rfl) hL) (Nat.le_of_ble_eq_true rfl) (by simp [kx_cat, w_cat, z_ci, z_cr, z_cl, z_cn]) h (fun v29 w28 hle h => ?_) (fun _ _ _ h => kzx_no rfl h)
    have h := h hle
    have hlp21 := w_l_le hlp21 hle
    refine kz_nz1 (x := x2) hxp21 ?_
    refine kz_pfp (M := kt_M160) (n := v29) (c := 14) (o := p21) kX5_action_c15.2.2.1 wq_X5_168 (.inr (by exact hlp21)) ?_
    refine kz_goto (M := kt_M160) kX5_action_c15.2.2.2.1 (t := 415) rfl ?_
    exact kz_weak [(0, .ref (w_adr E.2.1 4 0)), (2, va_rf (x2))] ⟨rfl, ⟨rfl, trivial⟩⟩ rfl (zt_X5_action_p415 hL  h)
  · skip
    refine kz_aload_n (M := kt_M160) kX5_action_c16.2.1 rfl ?_
    refine kz_cv0 (M := kt_M160) (c := 4) (o := 0) (As := []) (rest := []) kX5_action_c16.2.2.1 wl_X5_82 wMv_213 rfl (.inl rfl) rfl (Nat.le_trans (Nat.le_of_ble_eq_true rfl) hL) (Nat.le_of_ble_eq_true rfl) (Nat.le_of_ble_eq_true rfl) h (fun w30 hle h => ?_) (fun _ _ _ h => kzx_no rfl h)
    have h := h hle
    exact kz_weak [(0, .ref (w_adr E.2.1 4 0)), (2, va_rf (x2))] ⟨rfl, ⟨rfl, trivial⟩⟩ rfl (zt_X5_action_p415 hL  h)
def zb_X5_action_p0 (E : zE) (L : Nat) (Q : kx_Rs → wS → Prop) (x1 : Int32) (w : wS) : Prop := zw E (L - 21) kt_M196 [.ref (w_adr E.2.1 4 0), va_rf (some (E.1.1 34))] w (wkr (fun v2 w1 => wle w w1 → zw E (L - 20) kt_M184 [.ref (w_adr E.2.1 4 0)] w1 (wk1 (fun v4 w3 => wle w1 w3 → (if v4 = 0 then (kx_inb (w_i w3 4 0 3) (w_n w3 1 0 2) = true ∧ (if w_r w3 1 0 2 (w_i w3 4 0 3).toNatClampNeg = some (E.1.1 0) then zb_X5_action_p45 E L Q x1 v2 w3 else zw E (L - 20) kt_M213 [.ref (w_adr E.2.1 4 0)] w3 (wk0 (fun w5 => wle w3 w5 → zb_X5_action_p45 E L Q x1 v2 w5) (fun e w => Q (.inr e) w)))) else zw E (L - 28) kt_M167 [.ref (w_adr E.2.1 4 0), va_rf (v2), .int x1] w3 (wk0 (fun w7 => wle w3 w7 → Q (.inl (some (va_rf (v2)))) w7) (fun e w => Q (.inr e) w)))) (fun e w => Q (.inr e) w))) (fun e w => Q (.inr e) w))
theorem zt_X5_action_p0 {E : zE} {L : Nat} {Q : kx_Rs → wS → Prop} {x1 : Int32} {w : wS} (hL : 28 ≤ L) (h : zb_X5_action_p0 E L Q x1 w) : kzE E L kt_M160 0 [(0, .ref (w_adr E.2.1 4 0)), (1, .int x1)] [] w Q := by
  unfold zb_X5_action_p0 at h
  refine kz_aload_n (M := kt_M160) kX5_action_c0.1 rfl ?_
  refine kz_getsE (M := kt_M160) (v := va_rf (some (E.1.1 34))) kX5_action_c0.2.1 zs_X5_300 ?_
  refine kz_cvr (M := kt_M160) (c := 4) (o := 0) (As := [va_rf (some (E.1.1 34))]) (rest := []) kX5_action_c0.2.2.1 wl_X5_152 wMv_196 rfl (.inl rfl) rfl (Nat.le_trans (Nat.le_of_ble_eq_true rfl) hL) (by simp [lg_sl, w_cat, z_ci, z_cr, z_cl, z_cn, kt_M196]) (Nat.le_of_ble_eq_true rfl) h (fun v2 w1 hle h => ?_) (fun _ _ _ h => kzx_no rfl h)
  have h := h hle
  refine kz_stv_n (M := kt_M160) (x := v2) [(0, .ref (w_adr E.2.1 4 0)), (1, .int x1)] kX5_action_c0.2.2.2.1 (Nat.le_of_ble_eq_true rfl) ⟨⟨rfl, rfl, .inl rfl⟩, ⟨⟨rfl, rfl, .inr rfl⟩, trivial⟩⟩ rfl ?_
  refine kz_aload_n (M := kt_M160) kX5_action_c0.2.2.2.2.1 rfl ?_
  refine kz_cv1 (M := kt_M160) (c := 4) (o := 0) (As := []) (rest := []) kX5_action_c0.2.2.2.2.2.1 wl_X5_91 wMv_184 rfl (.inl rfl) rfl (Nat.le_trans (Nat.le_of_ble_eq_true rfl) hL) (Nat.le_of_ble_eq_true rfl) (Nat.le_of_ble_eq_true rfl) h (fun v4 w3 hle h => ?_) (fun _ _ _ h => kzx_no rfl h)
  have h := h hle
  refine kz_if_eq (M := kt_M160) kX5_action_c0.2.2.2.2.2.2.1 (t := 23) rfl h (fun h => ?_) (fun h => ?_)
  · skip
    refine kz_aload_n (M := kt_M160) kX5_action_c1.2.2.2.2.2.1 rfl ?_
    refine kz_gfc (M := kt_M160) (x := 4) (c := 4) (o := 0) kX5_action_c1.2.2.2.2.2.2.1 wf_X5_9 (.inl rfl) ?_
    refine kz_gfc (M := kt_M160) (x := 1258) (c := 1) (o := 0) kX5_action_c1.2.2.2.2.2.2.2.1 wf_X5_48 (.inl rfl) ?_
    refine kz_aload_n (M := kt_M160) kX5_action_c2.1 rfl ?_
    refine kz_gfi (M := kt_M160) (c := 4) (o := 0) kX5_action_c2.2.1 wf_X5_29 (.inl rfl) ?_
    refine kz_aald (M := kt_M160) (τ := 0) (c := 1) (o := 0) (k := 2) (a := (E.2.1 1258)) kX5_action_c2.2.2.1 ow_1_0_2 oa_1_0_2 ot_4 rfl h (fun h => ?_)
    refine kz_getsE (M := kt_M160) (v := va_rf (some (E.1.1 0))) kX5_action_c2.2.2.2.1 zs_X5_61 ?_
    refine kz_acmp_eq (M := kt_M160) (x := w_r w3 1 0 2 (w_i w3 4 0 3).toNatClampNeg) (y := some (E.1.1 0)) kX5_action_c2.2.2.2.2.1 (t := 45) rfl h (fun h => ?_) (fun h => ?_)
    · skip
      exact kz_weak [(0, .ref (w_adr E.2.1 4 0)), (1, .int x1), (2, va_rf (v2))] ⟨rfl, ⟨rfl, ⟨rfl, trivial⟩⟩⟩ rfl (zt_X5_action_p45 hL  h)
    · skip
      refine kz_aload_n (M := kt_M160) kX5_action_c2.2.2.2.2.2.1 rfl ?_
      refine kz_cv0 (M := kt_M160) (c := 4) (o := 0) (As := []) (rest := []) kX5_action_c2.2.2.2.2.2.2.1 wl_X5_82 wMv_213 rfl (.inl rfl) rfl (Nat.le_trans (Nat.le_of_ble_eq_true rfl) hL) (Nat.le_of_ble_eq_true rfl) (Nat.le_of_ble_eq_true rfl) h (fun w5 hle h => ?_) (fun _ _ _ h => kzx_no rfl h)
      have h := h hle
      exact kz_weak [(0, .ref (w_adr E.2.1 4 0)), (1, .int x1), (2, va_rf (v2))] ⟨rfl, ⟨rfl, ⟨rfl, trivial⟩⟩⟩ rfl (zt_X5_action_p45 hL  h)
  · skip
    refine kz_aload_n (M := kt_M160) kX5_action_c0.2.2.2.2.2.2.2.1 rfl ?_
    refine kz_aload_nv (M := kt_M160) (x := v2) kX5_action_c1.1 rfl ?_
    refine kz_iload_n (M := kt_M160) kX5_action_c1.2.1 rfl ?_
    refine kz_cv0 (M := kt_M160) (c := 4) (o := 0) (As := [va_rf (v2), .int x1]) (rest := []) kX5_action_c1.2.2.1 wl_X5_303 wMv_167 rfl (.inl rfl) rfl (Nat.le_trans (Nat.le_of_ble_eq_true rfl) hL) (by simp [lg_sl, w_cat, z_ci, z_cr, z_cl, z_cn, kt_M167]) (Nat.le_of_ble_eq_true rfl) h (fun w7 hle h => ?_) (fun _ _ _ h => kzx_no rfl h)
    have h := h hle
    refine kz_aload_nv (M := kt_M160) (x := v2) kX5_action_c1.2.2.2.1 rfl ?_
    exact kz_areto (x := v2) (M := kt_M160) kX5_action_c1.2.2.2.2.1 rfl h
def zL_X5_byName_p111 (E : zE) (L : Nat) (Q : kx_Rs → wS → Prop) (x1 : Option Nat) (x2 : Int32) (x7 : Option Nat) (x8 : Int32) (w : wS) : Prop := kzE E L kt_M167 111 [(0, .ref (w_adr E.2.1 4 0)), (1, va_rf (x1)), (2, .int x2), (7, va_rf (x7)), (8, .int x8)] [] w Q
def zb_X5_byName_p337 (E : zE) (L : Nat) (Q : kx_Rs → wS → Prop) (w : wS) : Prop := Q (.inl none) w
theorem zt_X5_byName_p337 {E : zE} {L : Nat} {Q : kx_Rs → wS → Prop} {w : wS} (hL : 25 ≤ L) (h : zb_X5_byName_p337 E L Q  w) : kzE E L kt_M167 337 [(0, .ref (w_adr E.2.1 4 0))] [] w Q := by
  unfold zb_X5_byName_p337 at h
  exact kz_ret (M := kt_M167) kX5_byName_c19.2.2.2.2.2.1 rfl h
def zb_X5_byName_p312 (E : zE) (L : Nat) (Q : kx_Rs → wS → Prop) (x1 : Option Nat) (x2 : Int32) (w : wS) : Prop := zw E (L - 20) kt_M174 [.ref (w_adr E.2.1 4 0)] w (wk0 (fun w1 => wle w w1 → (∃ p3, x1 = some p3 ∧ w_l w1 E.2.1 14 p3 ∧ (if ¬ w_p w1 14 p3 0 = some (E.1.1 39) then zb_X5_byName_p337 E L Q w1 else zw E (L - 23) kt_M215 [.ref (w_adr E.2.1 4 0), .int (x2 + 1)] w1 (wkr (fun v5 w4 => wle w1 w4 → zb_X5_byName_p337 E L Q (ws_p w4 14 p3 4 v5)) (fun e w => Q (.inr e) w))))) (fun e w => Q (.inr e) w))
theorem zt_X5_byName_p312 {E : zE} {L : Nat} {Q : kx_Rs → wS → Prop} {x1 : Option Nat} {x2 : Int32} {w : wS} (hL : 25 ≤ L) (h : zb_X5_byName_p312 E L Q x1 x2 w) : kzE E L kt_M167 312 [(0, .ref (w_adr E.2.1 4 0)), (1, va_rf (x1)), (2, .int x2)] [] w Q := by
  unfold zb_X5_byName_p312 at h
  refine kz_aload_n (M := kt_M167) kX5_byName_c18.1 rfl ?_
  refine kz_cv0 (M := kt_M167) (c := 4) (o := 0) (As := []) (rest := []) kX5_byName_c18.2.1 wl_X5_229 wMv_174 rfl (.inl rfl) rfl (Nat.le_trans (Nat.le_of_ble_eq_true rfl) hL) (Nat.le_of_ble_eq_true rfl) (Nat.le_of_ble_eq_true rfl) h (fun w1 hle h => ?_) (fun _ _ _ h => kzx_no rfl h)
  have h := h hle
  refine kz_aload_nv (M := kt_M167) (x := x1) kX5_byName_c18.2.2.1 rfl ?_
  obtain ⟨p3, hxp3, hlp3, h⟩ := h
  refine kz_nz0 (x := x1) hxp3 ?_
  refine kz_gfp (M := kt_M167) (c := 14) (o := p3) kX5_byName_c18.2.2.2.1 wf_X5_214 (.inr (by exact hlp3)) ?_
  refine kz_getsE (M := kt_M167) (v := va_rf (some (E.1.1 39))) kX5_byName_c18.2.2.2.2.1 zs_X5_404 ?_
  refine kz_acmp_ne (M := kt_M167) (x := w_p w1 14 p3 0) (y := some (E.1.1 39)) kX5_byName_c18.2.2.2.2.2.1 (t := 337) rfl h (fun h => ?_) (fun h => ?_)
  · skip
    exact kz_weak [(0, .ref (w_adr E.2.1 4 0))] ⟨rfl, trivial⟩ rfl (zt_X5_byName_p337 hL  h)
  · skip
    refine kz_aload_nv (M := kt_M167) (x := x1) kX5_byName_c18.2.2.2.2.2.2.1 rfl ?_
    refine kz_aload_n (M := kt_M167) kX5_byName_c18.2.2.2.2.2.2.2.1 rfl ?_
    refine kz_iload_n (M := kt_M167) kX5_byName_c19.1 rfl ?_
    refine kz_ic (M := kt_M167) 1 kX5_byName_c19.2.1 rfl ?_
    refine kz_iadd (M := kt_M167) kX5_byName_c19.2.2.1 ?_
    refine kz_cvr (M := kt_M167) (c := 4) (o := 0) (As := [.int (x2 + 1)]) (rest := [va_rf (x1)]) kX5_byName_c19.2.2.2.1 wl_X5_376 wMv_215 rfl (.inl rfl) rfl (Nat.le_trans (Nat.le_of_ble_eq_true rfl) hL) (Nat.le_of_ble_eq_true rfl) (by simp [kx_cat, w_cat, z_ci, z_cr, z_cl, z_cn]) h (fun v5 w4 hle h => ?_) (fun _ _ _ h => kzx_no rfl h)
    have h := h hle
    have hlp3 := w_l_le hlp3 hle
    refine kz_nz1 (x := x1) hxp3 ?_
    refine kz_pfp (M := kt_M167) (n := v5) (c := 14) (o := p3) kX5_byName_c19.2.2.2.2.1 wq_X5_168 (.inr (by exact hlp3)) ?_
    exact kz_weak [(0, .ref (w_adr E.2.1 4 0))] ⟨rfl, trivial⟩ rfl (zt_X5_byName_p337 hL  h)
def zb_X5_byName_p271 (E : zE) (L : Nat) (Q : kx_Rs → wS → Prop) (x1 : Option Nat) (x2 : Int32) (w : wS) : Prop := (∃ p1, x1 = some p1 ∧ w_l w E.2.1 14 p1 ∧ (if ¬ w_p w 14 p1 0 = some (E.1.1 38) then (if ¬ w_p w 14 p1 0 = some (E.1.1 40) then zb_X5_byName_p312 E L Q x1 x2 w else zw E (L - 24) kt_M173 [.ref (w_adr E.2.1 4 0), .int 41] w (wkr (fun v3 w2 => wle w w2 → zb_X5_byName_p312 E L Q x1 x2 (ws_p w2 14 p1 4 v3)) (fun e w => Q (.inr e) w))) else zw E (L - 22) kt_M177 [.ref (w_adr E.2.1 4 0)] w (wkr (fun v5 w4 => wle w w4 → zb_X5_byName_p312 E L Q x1 x2 (ws_p w4 14 p1 4 v5)) (fun e w => Q (.inr e) w))))
theorem zt_X5_byName_p271 {E : zE} {L : Nat} {Q : kx_Rs → wS → Prop} {x1 : Option Nat} {x2 : Int32} {w : wS} (hL : 25 ≤ L) (h : zb_X5_byName_p271 E L Q x1 x2 w) : kzE E L kt_M167 271 [(0, .ref (w_adr E.2.1 4 0)), (1, va_rf (x1)), (2, .int x2)] [] w Q := by
  unfold zb_X5_byName_p271 at h
  refine kz_aload_nv (M := kt_M167) (x := x1) kX5_byName_c15.2.2.2.2.2.2.1 rfl ?_
  obtain ⟨p1, hxp1, hlp1, h⟩ := h
  refine kz_nz0 (x := x1) hxp1 ?_
  refine kz_gfp (M := kt_M167) (c := 14) (o := p1) kX5_byName_c15.2.2.2.2.2.2.2.1 wf_X5_214 (.inr (by exact hlp1)) ?_
  refine kz_getsE (M := kt_M167) (v := va_rf (some (E.1.1 38))) kX5_byName_c16.1 zs_X5_401 ?_
  refine kz_acmp_ne (M := kt_M167) (x := w_p w 14 p1 0) (y := some (E.1.1 38)) kX5_byName_c16.2.1 (t := 292) rfl h (fun h => ?_) (fun h => ?_)
  · skip
    refine kz_aload_nv (M := kt_M167) (x := x1) kX5_byName_c16.2.2.2.2.2.2.2.1 rfl ?_
    refine kz_nz0 (x := x1) hxp1 ?_
    refine kz_gfp (M := kt_M167) (c := 14) (o := p1) kX5_byName_c17.1 wf_X5_214 (.inr (by exact hlp1)) ?_
    refine kz_getsE (M := kt_M167) (v := va_rf (some (E.1.1 40))) kX5_byName_c17.2.1 zs_X5_407 ?_
    refine kz_acmp_ne (M := kt_M167) (x := w_p w 14 p1 0) (y := some (E.1.1 40)) kX5_byName_c17.2.2.1 (t := 312) rfl h (fun h => ?_) (fun h => ?_)
    · skip
      exact kz_weak [(0, .ref (w_adr E.2.1 4 0)), (1, va_rf (x1)), (2, .int x2)] ⟨rfl, ⟨rfl, ⟨rfl, trivial⟩⟩⟩ rfl (zt_X5_byName_p312 hL  h)
    · skip
      refine kz_aload_nv (M := kt_M167) (x := x1) kX5_byName_c17.2.2.2.1 rfl ?_
      refine kz_aload_n (M := kt_M167) kX5_byName_c17.2.2.2.2.1 rfl ?_
      refine kz_bi (M := kt_M167) 41 kX5_byName_c17.2.2.2.2.2.1 rfl ?_
      refine kz_cvr (M := kt_M167) (c := 4) (o := 0) (As := [.int 41]) (rest := [va_rf (x1)]) kX5_byName_c17.2.2.2.2.2.2.1 wl_X5_373 wMv_173 rfl (.inl rfl) rfl (Nat.le_trans (Nat.le_of_ble_eq_true rfl) hL) (Nat.le_of_ble_eq_true rfl) (by simp [kx_cat, w_cat, z_ci, z_cr, z_cl, z_cn]) h (fun v3 w2 hle h => ?_) (fun _ _ _ h => kzx_no rfl h)
      have h := h hle
      have hlp1 := w_l_le hlp1 hle
      refine kz_nz1 (x := x1) hxp1 ?_
      refine kz_pfp (M := kt_M167) (n := v3) (c := 14) (o := p1) kX5_byName_c17.2.2.2.2.2.2.2.1 wq_X5_168 (.inr (by exact hlp1)) ?_
      exact kz_weak [(0, .ref (w_adr E.2.1 4 0)), (1, va_rf (x1)), (2, .int x2)] ⟨rfl, ⟨rfl, ⟨rfl, trivial⟩⟩⟩ rfl (zt_X5_byName_p312 hL  h)
  · skip
    refine kz_aload_nv (M := kt_M167) (x := x1) kX5_byName_c16.2.2.1 rfl ?_
    refine kz_aload_n (M := kt_M167) kX5_byName_c16.2.2.2.1 rfl ?_
    refine kz_cvr (M := kt_M167) (c := 4) (o := 0) (As := []) (rest := [va_rf (x1)]) kX5_byName_c16.2.2.2.2.1 wl_X5_194 wMv_177 rfl (.inl rfl) rfl (Nat.le_trans (Nat.le_of_ble_eq_true rfl) hL) (Nat.le_of_ble_eq_true rfl) (by simp [kx_cat, w_cat, z_ci, z_cr, z_cl, z_cn]) h (fun v5 w4 hle h => ?_) (fun _ _ _ h => kzx_no rfl h)
    have h := h hle
    have hlp1 := w_l_le hlp1 hle
    refine kz_nz1 (x := x1) hxp1 ?_
    refine kz_pfp (M := kt_M167) (n := v5) (c := 14) (o := p1) kX5_byName_c16.2.2.2.2.2.1 wq_X5_168 (.inr (by exact hlp1)) ?_
    refine kz_goto (M := kt_M167) kX5_byName_c16.2.2.2.2.2.2.1 (t := 312) rfl ?_
    exact kz_weak [(0, .ref (w_adr E.2.1 4 0)), (1, va_rf (x1)), (2, .int x2)] ⟨rfl, ⟨rfl, ⟨rfl, trivial⟩⟩⟩ rfl (zt_X5_byName_p312 hL  h)
def zb_X5_byName_p254 (E : zE) (L : Nat) (Q : kx_Rs → wS → Prop) (x1 : Option Nat) (x2 : Int32) (y0 : Option Nat) (y1 : Option Nat) (w : wS) : Prop := (∃ p1, y1 = some p1 ∧ w_l w E.2.1 14 p1 ∧ (∃ p2, x1 = some p2 ∧ w_l (ws_p w 14 p1 0 y0) E.2.1 14 p2 ∧ (if w_p (ws_p w 14 p1 0 y0) 14 p2 0 = some (E.1.1 40) then zb_X5_byName_p271 E L Q x1 x2 (ws_p w 14 p1 0 y0) else zw E (L - 20) kt_M195 [.ref (w_adr E.2.1 4 0)] (ws_p w 14 p1 0 y0) (wk0 (fun w3 => wle (ws_p w 14 p1 0 y0) w3 → zb_X5_byName_p271 E L Q x1 x2 w3) (fun e w => Q (.inr e) w)))))
theorem zt_X5_byName_p254 {E : zE} {L : Nat} {Q : kx_Rs → wS → Prop} {x1 : Option Nat} {x2 : Int32} {y0 : Option Nat} {y1 : Option Nat} {w : wS} (hL : 25 ≤ L) (h : zb_X5_byName_p254 E L Q x1 x2 y0 y1 w) : kzE E L kt_M167 254 [(0, .ref (w_adr E.2.1 4 0)), (1, va_rf (x1)), (2, .int x2)] [va_rf (y0), va_rf (y1)] w Q := by
  unfold zb_X5_byName_p254 at h
  obtain ⟨p1, hxp1, hlp1, h⟩ := h
  refine kz_nz1 (x := y1) hxp1 ?_
  refine kz_pfp (M := kt_M167) (n := y0) (c := 14) (o := p1) kX5_byName_c14.2.2.2.2.2.2.2.1 wq_X5_214 (.inr (by exact hlp1)) ?_
  refine kz_aload_nv (M := kt_M167) (x := x1) kX5_byName_c15.1 rfl ?_
  obtain ⟨p2, hxp2, hlp2, h⟩ := h
  refine kz_nz0 (x := x1) hxp2 ?_
  refine kz_gfpR (M := kt_M167) (c := 14) (o := p2) (w_p (ws_p w 14 p1 0 y0) 14 p2 0) kX5_byName_c15.2.1 wf_X5_214 (.inr (by exact hlp2)) rfl ?_
  refine kz_getsE (M := kt_M167) (v := va_rf (some (E.1.1 40))) kX5_byName_c15.2.2.1 zs_X5_407 ?_
  refine kz_acmp_eq (M := kt_M167) (x := w_p (ws_p w 14 p1 0 y0) 14 p2 0) (y := some (E.1.1 40)) kX5_byName_c15.2.2.2.1 (t := 271) rfl h (fun h => ?_) (fun h => ?_)
  · skip
    exact kz_weak [(0, .ref (w_adr E.2.1 4 0)), (1, va_rf (x1)), (2, .int x2)] ⟨rfl, ⟨rfl, ⟨rfl, trivial⟩⟩⟩ rfl (zt_X5_byName_p271 hL  h)
  · skip
    refine kz_aload_n (M := kt_M167) kX5_byName_c15.2.2.2.2.1 rfl ?_
    refine kz_cv0 (M := kt_M167) (c := 4) (o := 0) (As := []) (rest := []) kX5_byName_c15.2.2.2.2.2.1 wl_X5_85 wMv_195 rfl (.inl rfl) rfl (Nat.le_trans (Nat.le_of_ble_eq_true rfl) hL) (Nat.le_of_ble_eq_true rfl) (Nat.le_of_ble_eq_true rfl) h (fun w3 hle h => ?_) (fun _ _ _ h => kzx_no rfl h)
    have h := h hle
    have hlp1 := w_l_le hlp1 hle
    have hlp2 := w_l_le hlp2 hle
    exact kz_weak [(0, .ref (w_adr E.2.1 4 0)), (1, va_rf (x1)), (2, .int x2)] ⟨rfl, ⟨rfl, ⟨rfl, trivial⟩⟩⟩ rfl (zt_X5_byName_p271 hL  h)
def zb_X5_byName_p135 (E : zE) (L : Nat) (Q : kx_Rs → wS → Prop) (x1 : Option Nat) (x2 : Int32) (x7 : Option Nat) (x8 : Int32) (w : wS) : Prop := zw E (L - 22) kt_M172 [.ref (w_adr E.2.1 4 0)] w (wkr (fun v2 w1 => wle w w1 → zw E (L - 21) kt_M166 [va_rf (x7), va_rf (v2)] w1 (wkr (fun v4 w3 => wle w1 w3 → zL_X5_byName_p111 E L Q x1 x2 v4 (x8 + 1) w3) (fun e w => Q (.inr e) w))) (fun e w => Q (.inr e) w))
theorem zt_X5_byName_p135 {E : zE} {L : Nat} {Q : kx_Rs → wS → Prop} {x1 : Option Nat} {x2 : Int32} {x7 : Option Nat} {x8 : Int32} {w : wS} (hL : 25 ≤ L) (h : zb_X5_byName_p135 E L Q x1 x2 x7 x8 w) : kzE E L kt_M167 135 [(0, .ref (w_adr E.2.1 4 0)), (1, va_rf (x1)), (2, .int x2), (7, va_rf (x7)), (8, .int x8)] [] w Q := by
  unfold zb_X5_byName_p135 at h
  refine kz_aloadv (M := kt_M167) (x := x7) kX5_byName_c8.2.1 rfl ?_
  refine kz_aload_n (M := kt_M167) kX5_byName_c8.2.2.1 rfl ?_
  refine kz_cvr (M := kt_M167) (c := 4) (o := 0) (As := []) (rest := [va_rf (x7)]) kX5_byName_c8.2.2.2.1 wl_X5_249 wMv_172 rfl (.inl rfl) rfl (Nat.le_trans (Nat.le_of_ble_eq_true rfl) hL) (Nat.le_of_ble_eq_true rfl) (by simp [kx_cat, w_cat, z_ci, z_cr, z_cl, z_cn]) h (fun v2 w1 hle h => ?_) (fun _ _ _ h => kzx_no rfl h)
  have h := h hle
  refine kz_csr (M := kt_M167) (As := [va_rf (x7), va_rf (v2)]) (rest := []) kX5_byName_c8.2.2.2.2.1 wl_X5_158 wMs_166 rfl (Nat.le_trans (Nat.le_of_ble_eq_true rfl) hL) (by simp [lg_sl, w_cat, z_ci, z_cr, z_cl, z_cn, kt_M166]) (Nat.le_of_ble_eq_true rfl) h (fun v4 w3 hle h => ?_) (fun _ _ _ h => kzx_no rfl h)
  have h := h hle
  refine kz_stv (M := kt_M167) (x := v4) [(0, .ref (w_adr E.2.1 4 0)), (1, va_rf (x1)), (2, .int x2), (8, .int x8)] kX5_byName_c8.2.2.2.2.2.1 (Nat.le_of_ble_eq_true rfl) ⟨⟨rfl, rfl, .inl rfl⟩, ⟨⟨rfl, rfl, .inl rfl⟩, ⟨⟨rfl, rfl, .inl rfl⟩, ⟨⟨rfl, rfl, .inl rfl⟩, trivial⟩⟩⟩⟩ rfl ?_
  refine kz_inc (M := kt_M167) [(0, .ref (w_adr E.2.1 4 0)), (1, va_rf (x1)), (2, .int x2), (7, va_rf (v4))] kX5_byName_c8.2.2.2.2.2.2.1 rfl (Nat.le_of_ble_eq_true rfl) ⟨⟨rfl, rfl, .inl rfl⟩, ⟨⟨rfl, rfl, .inl rfl⟩, ⟨⟨rfl, rfl, .inl rfl⟩, ⟨⟨rfl, rfl, .inr (w_cat (v4))⟩, trivial⟩⟩⟩⟩ rfl ?_
  refine kz_goto (M := kt_M167) kX5_byName_c8.2.2.2.2.2.2.2.1 (t := 111) rfl ?_
  exact kz_weak [(0, .ref (w_adr E.2.1 4 0)), (1, va_rf (x1)), (2, .int x2), (7, va_rf (v4)), (8, .int (x8 + 1))] ⟨rfl, ⟨rfl, ⟨rfl, ⟨rfl, ⟨rfl, trivial⟩⟩⟩⟩⟩ rfl h
def zb_X5_byName_p111 (E : zE) (L : Nat) (Q : kx_Rs → wS → Prop) (x1 : Option Nat) (x2 : Int32) (x7 : Option Nat) (x8 : Int32) (w : wS) : Prop := zw E (L - 21) kt_M183 [.ref (w_adr E.2.1 4 0), .int 40] w (wk1 (fun v2 w1 => wle w w1 → (if v2 = 0 then zw E (L - 21) kt_M176 [.ref (w_adr E.2.1 4 0), .int 43] w1 (wk0 (fun w3 => wle w1 w3 → zw E (L - 20) kt_M178 [.ref (w_adr E.2.1 4 0)] w3 (wkr (fun v6 w5 => wle w3 w5 → (∃ p7, x1 = some p7 ∧ w_l w5 E.2.1 14 p7 ∧ zb_X5_byName_p312 E L Q x1 x2 (ws_p w5 14 p7 4 v6))) (fun e w => Q (.inr e) w))) (fun e w => Q (.inr e) w)) else zw E (L - 20) kt_M195 [.ref (w_adr E.2.1 4 0)] w1 (wk0 (fun w8 => wle w1 w8 → (if ¬ x8 = 8 then zb_X5_byName_p135 E L Q x1 x2 x7 x8 w8 else zw E (L - 20) kt_M213 [.ref (w_adr E.2.1 4 0)] w8 (wk0 (fun w10 => wle w8 w10 → zb_X5_byName_p135 E L Q x1 x2 x7 x8 w10) (fun e w => Q (.inr e) w)))) (fun e w => Q (.inr e) w)))) (fun e w => Q (.inr e) w))
theorem zt_X5_byName_p111 {E : zE} {L : Nat} {Q : kx_Rs → wS → Prop} {x1 : Option Nat} {x2 : Int32} {x7 : Option Nat} {x8 : Int32} {w : wS} (hL : 25 ≤ L) (h : zb_X5_byName_p111 E L Q x1 x2 x7 x8 w) : kzE E L kt_M167 111 [(0, .ref (w_adr E.2.1 4 0)), (1, va_rf (x1)), (2, .int x2), (7, va_rf (x7)), (8, .int x8)] [] w Q := by
  unfold zb_X5_byName_p111 at h
  refine kz_aload_n (M := kt_M167) kX5_byName_c6.2.2.2.2.2.2.1 rfl ?_
  refine kz_bi (M := kt_M167) 40 kX5_byName_c6.2.2.2.2.2.2.2.1 rfl ?_
  refine kz_cv1 (M := kt_M167) (c := 4) (o := 0) (As := [.int 40]) (rest := []) kX5_byName_c7.1 wl_X5_79 wMv_183 rfl (.inl rfl) rfl (Nat.le_trans (Nat.le_of_ble_eq_true rfl) hL) (Nat.le_of_ble_eq_true rfl) (Nat.le_of_ble_eq_true rfl) h (fun v2 w1 hle h => ?_) (fun _ _ _ h => kzx_no rfl h)
  have h := h hle
  refine kz_if_eq (M := kt_M167) kX5_byName_c7.2.1 (t := 152) rfl h (fun h => ?_) (fun h => ?_)
  · skip
    refine kz_aload_n (M := kt_M167) kX5_byName_c9.1 rfl ?_
    refine kz_bi (M := kt_M167) 43 kX5_byName_c9.2.1 rfl ?_
    refine kz_cv0 (M := kt_M167) (c := 4) (o := 0) (As := [.int 43]) (rest := []) kX5_byName_c9.2.2.1 wl_X5_100 wMv_176 rfl (.inl rfl) rfl (Nat.le_trans (Nat.le_of_ble_eq_true rfl) hL) (Nat.le_of_ble_eq_true rfl) (Nat.le_of_ble_eq_true rfl) h (fun w3 hle h => ?_) (fun _ _ _ h => kzx_no rfl h)
    have h := h hle
    refine kz_aload_nv (M := kt_M167) (x := x1) kX5_byName_c9.2.2.2.1 rfl ?_
    refine kz_aload_n (M := kt_M167) kX5_byName_c9.2.2.2.2.1 rfl ?_
    refine kz_cvr (M := kt_M167) (c := 4) (o := 0) (As := []) (rest := [va_rf (x1)]) kX5_byName_c9.2.2.2.2.2.1 wl_X5_352 wMv_178 rfl (.inl rfl) rfl (Nat.le_trans (Nat.le_of_ble_eq_true rfl) hL) (Nat.le_of_ble_eq_true rfl) (by simp [kx_cat, w_cat, z_ci, z_cr, z_cl, z_cn]) h (fun v6 w5 hle h => ?_) (fun _ _ _ h => kzx_no rfl h)
    have h := h hle
    obtain ⟨p7, hxp7, hlp7, h⟩ := h
    refine kz_nz1 (x := x1) hxp7 ?_
    refine kz_pfp (M := kt_M167) (n := v6) (c := 14) (o := p7) kX5_byName_c9.2.2.2.2.2.2.1 wq_X5_168 (.inr (by exact hlp7)) ?_
    refine kz_goto (M := kt_M167) kX5_byName_c9.2.2.2.2.2.2.2.1 (t := 312) rfl ?_
    exact kz_weak [(0, .ref (w_adr E.2.1 4 0)), (1, va_rf (x1)), (2, .int x2)] ⟨rfl, ⟨rfl, ⟨rfl, trivial⟩⟩⟩ rfl (zt_X5_byName_p312 hL  h)
  · skip
    refine kz_aload_n (M := kt_M167) kX5_byName_c7.2.2.1 rfl ?_
    refine kz_cv0 (M := kt_M167) (c := 4) (o := 0) (As := []) (rest := []) kX5_byName_c7.2.2.2.1 wl_X5_85 wMv_195 rfl (.inl rfl) rfl (Nat.le_trans (Nat.le_of_ble_eq_true rfl) hL) (Nat.le_of_ble_eq_true rfl) (Nat.le_of_ble_eq_true rfl) h (fun w8 hle h => ?_) (fun _ _ _ h => kzx_no rfl h)
    have h := h hle
    refine kz_iload (M := kt_M167) kX5_byName_c7.2.2.2.2.1 rfl ?_
    refine kz_bi (M := kt_M167) 8 kX5_byName_c7.2.2.2.2.2.1 rfl ?_
    refine kz_icmp_ne (M := kt_M167) kX5_byName_c7.2.2.2.2.2.2.1 (t := 135) rfl h (fun h => ?_) (fun h => ?_)
    · skip
      exact kz_weak [(0, .ref (w_adr E.2.1 4 0)), (1, va_rf (x1)), (2, .int x2), (7, va_rf (x7)), (8, .int x8)] ⟨rfl, ⟨rfl, ⟨rfl, ⟨rfl, ⟨rfl, trivial⟩⟩⟩⟩⟩ rfl (zt_X5_byName_p135 hL  h)
    · skip
      refine kz_aload_n (M := kt_M167) kX5_byName_c7.2.2.2.2.2.2.2.1 rfl ?_
      refine kz_cv0 (M := kt_M167) (c := 4) (o := 0) (As := []) (rest := []) kX5_byName_c8.1 wl_X5_82 wMv_213 rfl (.inl rfl) rfl (Nat.le_trans (Nat.le_of_ble_eq_true rfl) hL) (Nat.le_of_ble_eq_true rfl) (Nat.le_of_ble_eq_true rfl) h (fun w10 hle h => ?_) (fun _ _ _ h => kzx_no rfl h)
      have h := h hle
      exact kz_weak [(0, .ref (w_adr E.2.1 4 0)), (1, va_rf (x1)), (2, .int x2), (7, va_rf (x7)), (8, .int x8)] ⟨rfl, ⟨rfl, ⟨rfl, ⟨rfl, ⟨rfl, trivial⟩⟩⟩⟩⟩ rfl (zt_X5_byName_p135 hL  h)
def zb_X5_byName_p91 (E : zE) (L : Nat) (Q : kx_Rs → wS → Prop) (x1 : Option Nat) (x2 : Int32) (x6 : Option Nat) (w : wS) : Prop := (∃ p1, x1 = some p1 ∧ w_l w E.2.1 14 p1 ∧ zL_X5_byName_p111 E L Q x1 x2 x6 1 (ws_p (ws_p w 14 p1 0 (some (E.1.1 36))) 14 p1 3 x6))
theorem zt_X5_byName_p91 {E : zE} {L : Nat} {Q : kx_Rs → wS → Prop} {x1 : Option Nat} {x2 : Int32} {x6 : Option Nat} {w : wS} (hL : 25 ≤ L) (h : zb_X5_byName_p91 E L Q x1 x2 x6 w) : kzE E L kt_M167 91 [(0, .ref (w_adr E.2.1 4 0)), (1, va_rf (x1)), (2, .int x2), (6, va_rf (x6))] [] w Q := by
  unfold zb_X5_byName_p91 at h
  refine kz_aload_nv (M := kt_M167) (x := x1) kX5_byName_c5.2.2.2.2.1 rfl ?_
  refine kz_getsE (M := kt_M167) (v := va_rf (some (E.1.1 36))) kX5_byName_c5.2.2.2.2.2.1 zs_X5_391 ?_
  obtain ⟨p1, hxp1, hlp1, h⟩ := h
  refine kz_nz1 (x := x1) hxp1 ?_
  refine kz_pfp (M := kt_M167) (n := some (E.1.1 36)) (c := 14) (o := p1) kX5_byName_c5.2.2.2.2.2.2.1 wq_X5_214 (.inr (by exact hlp1)) ?_
  refine kz_aload_nv (M := kt_M167) (x := x1) kX5_byName_c5.2.2.2.2.2.2.2.1 rfl ?_
  refine kz_aloadv (M := kt_M167) (x := x6) kX5_byName_c6.1 rfl ?_
  refine kz_nz1 (x := x1) hxp1 ?_
  refine kz_pfp (M := kt_M167) (n := x6) (c := 14) (o := p1) kX5_byName_c6.2.1 wq_X5_162 (.inr (by exact hlp1)) ?_
  refine kz_aloadv (M := kt_M167) (x := x6) kX5_byName_c6.2.2.1 rfl ?_
  refine kz_stv (M := kt_M167) (x := x6) [(0, .ref (w_adr E.2.1 4 0)), (1, va_rf (x1)), (2, .int x2)] kX5_byName_c6.2.2.2.1 (Nat.le_of_ble_eq_true rfl) ⟨⟨rfl, rfl, .inl rfl⟩, ⟨⟨rfl, rfl, .inl rfl⟩, ⟨⟨rfl, rfl, .inl rfl⟩, trivial⟩⟩⟩ rfl ?_
  refine kz_ic (M := kt_M167) 1 kX5_byName_c6.2.2.2.2.1 rfl ?_
  refine kz_sti (M := kt_M167) [(0, .ref (w_adr E.2.1 4 0)), (1, va_rf (x1)), (2, .int x2), (7, va_rf (x6))] kX5_byName_c6.2.2.2.2.2.1 (Nat.le_of_ble_eq_true rfl) ⟨⟨rfl, rfl, .inl rfl⟩, ⟨⟨rfl, rfl, .inl rfl⟩, ⟨⟨rfl, rfl, .inl rfl⟩, ⟨⟨rfl, rfl, .inr (w_cat (x6))⟩, trivial⟩⟩⟩⟩ rfl ?_
  exact kz_weak [(0, .ref (w_adr E.2.1 4 0)), (1, va_rf (x1)), (2, .int x2), (7, va_rf (x6)), (8, .int 1)] ⟨rfl, ⟨rfl, ⟨rfl, ⟨rfl, ⟨rfl, trivial⟩⟩⟩⟩⟩ rfl h
def zb_X5_byName_p0 (E : zE) (L : Nat) (Q : kx_Rs → wS → Prop) (x1 : Option Nat) (x2 : Int32) (w : wS) : Prop := zw E (L - 20) kt_M189 [.ref (w_adr E.2.1 4 0)] w (wk1 (fun v2 w1 => wle w w1 → zw E (L - 21) kt_M193 [.ref (w_adr E.2.1 4 0)] w1 (wk1 (fun v4 w3 => wle w1 w3 → zw E (L - 21) kt_M183 [.ref (w_adr E.2.1 4 0), .int 36] w3 (wk1 (fun v6 w5 => wle w3 w5 → (if v6 = 0 then zw E (L - 24) kt_M225 [.ref (w_adr E.2.1 3 0), va_rf (some (E.1.1 18)), .int (w_i w 4 0 3), .int v2] w5 (wkr (fun v8 w7 => wle w5 w7 → zw E (L - 22) kt_M182 [.ref (w_adr E.2.1 4 0), va_rf (v8), .int v4] w7 (wkr (fun v10 w9 => wle w7 w9 → zw E (L - 21) kt_M183 [.ref (w_adr E.2.1 4 0), .int 40] w9 (wk1 (fun v12 w11 => wle w9 w11 → (if ¬ v12 = 0 then zb_X5_byName_p91 E L Q x1 x2 v10 w11 else zw E (L - 21) kt_M183 [.ref (w_adr E.2.1 4 0), .int 43] w11 (wk1 (fun v14 w13 => wle w11 w13 → (if v14 = 0 then zw E (L - 21) kt_M183 [.ref (w_adr E.2.1 4 0), .int 45] w13 (wk1 (fun v16 w15 => wle w13 w15 → (if v16 = 0 then zw E (L - 21) kt_M176 [.ref (w_adr E.2.1 4 0), .int 44] w15 (wk0 (fun w17 => wle w15 w17 → (∃ p19, x1 = some p19 ∧ w_l w17 E.2.1 14 p19 ∧ zw E (L - 21) kt_M183 [.ref (w_adr E.2.1 4 0), .int 0] (ws_p w17 14 p19 3 v10) (wk1 (fun v21 w20 => wle (ws_p w17 14 p19 3 v10) w20 → (if v21 = 0 then zw E (L - 21) kt_M183 [.ref (w_adr E.2.1 4 0), .int 5] w20 (wk1 (fun v23 w22 => wle w20 w22 → (if v23 = 0 then zb_X5_byName_p254 E L Q x1 x2 (some (E.1.1 40)) x1 w22 else zb_X5_byName_p254 E L Q x1 x2 (some (E.1.1 39)) x1 w22)) (fun e w => Q (.inr e) w)) else zb_X5_byName_p254 E L Q x1 x2 (some (E.1.1 38)) x1 w20)) (fun e w => Q (.inr e) w)))) (fun e w => Q (.inr e) w)) else (∃ p24, x1 = some p24 ∧ w_l w15 E.2.1 14 p24 ∧ zw E (L - 20) kt_M195 [.ref (w_adr E.2.1 4 0)] (ws_p (ws_p w15 14 p24 0 (some (E.1.1 37))) 14 p24 3 v10) (wk0 (fun w25 => wle (ws_p (ws_p w15 14 p24 0 (some (E.1.1 37))) 14 p24 3 v10) w25 → zw E (L - 25) kt_M208 [.ref (w_adr E.2.1 4 0), .int 41, .int 16] w25 (wkr (fun v28 w27 => wle w25 w27 → zb_X5_byName_p312 E L Q x1 x2 (ws_p w27 14 p24 4 v28)) (fun e w => Q (.inr e) w))) (fun e w => Q (.inr e) w))))) (fun e w => Q (.inr e) w)) else zb_X5_byName_p91 E L Q x1 x2 v10 w13)) (fun e w => Q (.inr e) w)))) (fun e w => Q (.inr e) w))) (fun e w => Q (.inr e) w))) (fun e w => Q (.inr e) w)) else (∃ p29, x1 = some p29 ∧ w_l w5 E.2.1 14 p29 ∧ zw E (L - 21) kt_M162 [.ref (w_adr E.2.1 4 0)] (ws_i (ws_p w5 14 p29 0 (some (E.1.1 35))) 14 p29 9 v4) (wkr (fun v31 w30 => wle (ws_i (ws_p w5 14 p29 0 (some (E.1.1 35))) 14 p29 9 v4) w30 → zw E (L - 20) kt_M174 [.ref (w_adr E.2.1 4 0)] (ws_p w30 14 p29 4 v31) (wk0 (fun w32 => wle (ws_p w30 14 p29 4 v31) w32 → Q (.inl none) w32) (fun e w => Q (.inr e) w))) (fun e w => Q (.inr e) w))))) (fun e w => Q (.inr e) w))) (fun e w => Q (.inr e) w))) (fun e w => Q (.inr e) w))
theorem zt_X5_byName_p0 {E : zE} {L : Nat} {Q : kx_Rs → wS → Prop} {x1 : Option Nat} {x2 : Int32} {w : wS} (hL : 25 ≤ L) (h : zb_X5_byName_p0 E L Q x1 x2 w) : kzE E L kt_M167 0 [(0, .ref (w_adr E.2.1 4 0)), (1, va_rf (x1)), (2, .int x2)] [] w Q := by
  unfold zb_X5_byName_p0 at h
  refine kz_aload_n (M := kt_M167) kX5_byName_c0.1 rfl ?_
  refine kz_gfi (M := kt_M167) (c := 4) (o := 0) kX5_byName_c0.2.1 wf_X5_29 (.inl rfl) ?_
  refine kz_sti_n (M := kt_M167) [(0, .ref (w_adr E.2.1 4 0)), (1, va_rf (x1)), (2, .int x2)] kX5_byName_c0.2.2.1 (Nat.le_of_ble_eq_true rfl) ⟨⟨rfl, rfl, .inl rfl⟩, ⟨⟨rfl, rfl, .inl rfl⟩, ⟨⟨rfl, rfl, .inr rfl⟩, trivial⟩⟩⟩ rfl ?_
  refine kz_aload_n (M := kt_M167) kX5_byName_c0.2.2.2.1 rfl ?_
  refine kz_cv1 (M := kt_M167) (c := 4) (o := 0) (As := []) (rest := []) kX5_byName_c0.2.2.2.2.1 wl_X5_33 wMv_189 rfl (.inl rfl) rfl (Nat.le_trans (Nat.le_of_ble_eq_true rfl) hL) (Nat.le_of_ble_eq_true rfl) (Nat.le_of_ble_eq_true rfl) h (fun v2 w1 hle h => ?_) (fun _ _ _ h => kzx_no rfl h)
  have h := h hle
  refine kz_sti (M := kt_M167) [(0, .ref (w_adr E.2.1 4 0)), (1, va_rf (x1)), (2, .int x2), (3, .int (w_i w 4 0 3))] kX5_byName_c0.2.2.2.2.2.1 (Nat.le_of_ble_eq_true rfl) ⟨⟨rfl, rfl, .inl rfl⟩, ⟨⟨rfl, rfl, .inl rfl⟩, ⟨⟨rfl, rfl, .inl rfl⟩, ⟨⟨rfl, rfl, .inr rfl⟩, trivial⟩⟩⟩⟩ rfl ?_
  refine kz_aload_n (M := kt_M167) kX5_byName_c0.2.2.2.2.2.2.1 rfl ?_
  refine kz_cv1 (M := kt_M167) (c := 4) (o := 0) (As := []) (rest := []) kX5_byName_c0.2.2.2.2.2.2.2.1 wl_X5_237 wMv_193 rfl (.inl rfl) rfl (Nat.le_trans (Nat.le_of_ble_eq_true rfl) hL) (Nat.le_of_ble_eq_true rfl) (Nat.le_of_ble_eq_true rfl) h (fun v4 w3 hle h => ?_) (fun _ _ _ h => kzx_no rfl h)
  have h := h hle
  refine kz_sti (M := kt_M167) [(0, .ref (w_adr E.2.1 4 0)), (1, va_rf (x1)), (2, .int x2), (3, .int (w_i w 4 0 3)), (4, .int v2)] kX5_byName_c1.1 (Nat.le_of_ble_eq_true rfl) ⟨⟨rfl, rfl, .inl rfl⟩, ⟨⟨rfl, rfl, .inl rfl⟩, ⟨⟨rfl, rfl, .inl rfl⟩, ⟨⟨rfl, rfl, .inl rfl⟩, ⟨⟨rfl, rfl, .inr rfl⟩, trivial⟩⟩⟩⟩⟩ rfl ?_
  refine kz_aload_n (M := kt_M167) kX5_byName_c1.2.1 rfl ?_
  refine kz_bi (M := kt_M167) 36 kX5_byName_c1.2.2.1 rfl ?_
  refine kz_cv1 (M := kt_M167) (c := 4) (o := 0) (As := [.int 36]) (rest := []) kX5_byName_c1.2.2.2.1 wl_X5_79 wMv_183 rfl (.inl rfl) rfl (Nat.le_trans (Nat.le_of_ble_eq_true rfl) hL) (Nat.le_of_ble_eq_true rfl) (Nat.le_of_ble_eq_true rfl) h (fun v6 w5 hle h => ?_) (fun _ _ _ h => kzx_no rfl h)
  have h := h hle
  refine kz_if_eq (M := kt_M167) kX5_byName_c1.2.2.2.2.1 (t := 52) rfl h (fun h => ?_) (fun h => ?_)
  · skip
    refine kz_aload_n (M := kt_M167) kX5_byName_c3.2.2.1 rfl ?_
    refine kz_aload_n (M := kt_M167) kX5_byName_c3.2.2.2.1 rfl ?_
    refine kz_gfc (M := kt_M167) (x := 12) (c := 4) (o := 0) kX5_byName_c3.2.2.2.2.1 wf_X5_19 (.inl rfl) ?_
    refine kz_getsE (M := kt_M167) (v := va_rf (some (E.1.1 18))) kX5_byName_c3.2.2.2.2.2.1 zs_X5_364 ?_
    refine kz_iload_n (M := kt_M167) kX5_byName_c3.2.2.2.2.2.2.1 rfl ?_
    refine kz_iload (M := kt_M167) kX5_byName_c3.2.2.2.2.2.2.2.1 rfl ?_
    refine kz_cvr (M := kt_M167) (c := 3) (o := 0) (As := [va_rf (some (E.1.1 18)), .int (w_i w 4 0 3), .int v2]) (rest := [.ref (w_adr E.2.1 4 0)]) kX5_byName_c4.1 wl_X5_36 wMv_225 rfl (.inl rfl) rfl (Nat.le_trans (Nat.le_of_ble_eq_true rfl) hL) (by simp [lg_sl, w_cat, z_ci, z_cr, z_cl, z_cn, kt_M225]) (Nat.le_of_ble_eq_true rfl) h (fun v8 w7 hle h => ?_) (fun _ _ _ h => kzx_no rfl h)
    have h := h hle
    refine kz_iload (M := kt_M167) kX5_byName_c4.2.1 rfl ?_
    refine kz_cvr (M := kt_M167) (c := 4) (o := 0) (As := [va_rf (v8), .int v4]) (rest := []) kX5_byName_c4.2.2.1 wl_X5_388 wMv_182 rfl (.inl rfl) rfl (Nat.le_trans (Nat.le_of_ble_eq_true rfl) hL) (by simp [lg_sl, w_cat, z_ci, z_cr, z_cl, z_cn, kt_M182]) (Nat.le_of_ble_eq_true rfl) h (fun v10 w9 hle h => ?_) (fun _ _ _ h => kzx_no rfl h)
    have h := h hle
    refine kz_stv (M := kt_M167) (x := v10) [(0, .ref (w_adr E.2.1 4 0)), (1, va_rf (x1)), (2, .int x2)] kX5_byName_c4.2.2.2.1 (Nat.le_of_ble_eq_true rfl) ⟨⟨rfl, rfl, .inl rfl⟩, ⟨⟨rfl, rfl, .inl rfl⟩, ⟨⟨rfl, rfl, .inl rfl⟩, trivial⟩⟩⟩ rfl ?_
    refine kz_aload_n (M := kt_M167) kX5_byName_c4.2.2.2.2.1 rfl ?_
    refine kz_bi (M := kt_M167) 40 kX5_byName_c4.2.2.2.2.2.1 rfl ?_
    refine kz_cv1 (M := kt_M167) (c := 4) (o := 0) (As := [.int 40]) (rest := []) kX5_byName_c4.2.2.2.2.2.2.1 wl_X5_79 wMv_183 rfl (.inl rfl) rfl (Nat.le_trans (Nat.le_of_ble_eq_true rfl) hL) (Nat.le_of_ble_eq_true rfl) (Nat.le_of_ble_eq_true rfl) h (fun v12 w11 hle h => ?_) (fun _ _ _ h => kzx_no rfl h)
    have h := h hle
    refine kz_if_ne (M := kt_M167) kX5_byName_c4.2.2.2.2.2.2.2.1 (t := 91) rfl h (fun h => ?_) (fun h => ?_)
    · skip
      exact kz_weak [(0, .ref (w_adr E.2.1 4 0)), (1, va_rf (x1)), (2, .int x2), (6, va_rf (v10))] ⟨rfl, ⟨rfl, ⟨rfl, ⟨rfl, trivial⟩⟩⟩⟩ rfl (zt_X5_byName_p91 hL  h)
    · skip
      refine kz_aload_n (M := kt_M167) kX5_byName_c5.1 rfl ?_
      refine kz_bi (M := kt_M167) 43 kX5_byName_c5.2.1 rfl ?_
      refine kz_cv1 (M := kt_M167) (c := 4) (o := 0) (As := [.int 43]) (rest := []) kX5_byName_c5.2.2.1 wl_X5_79 wMv_183 rfl (.inl rfl) rfl (Nat.le_trans (Nat.le_of_ble_eq_true rfl) hL) (Nat.le_of_ble_eq_true rfl) (Nat.le_of_ble_eq_true rfl) h (fun v14 w13 hle h => ?_) (fun _ _ _ h => kzx_no rfl h)
      have h := h hle
      refine kz_if_eq (M := kt_M167) kX5_byName_c5.2.2.2.1 (t := 169) rfl h (fun h => ?_) (fun h => ?_)
      · skip
        refine kz_aload_n (M := kt_M167) kX5_byName_c10.1 rfl ?_
        refine kz_bi (M := kt_M167) 45 kX5_byName_c10.2.1 rfl ?_
        refine kz_cv1 (M := kt_M167) (c := 4) (o := 0) (As := [.int 45]) (rest := []) kX5_byName_c10.2.2.1 wl_X5_79 wMv_183 rfl (.inl rfl) rfl (Nat.le_trans (Nat.le_of_ble_eq_true rfl) hL) (Nat.le_of_ble_eq_true rfl) (Nat.le_of_ble_eq_true rfl) h (fun v16 w15 hle h => ?_) (fun _ _ _ h => kzx_no rfl h)
        have h := h hle
        refine kz_if_eq (M := kt_M167) kX5_byName_c10.2.2.2.1 (t := 210) rfl h (fun h => ?_) (fun h => ?_)
        · skip
          refine kz_aload_n (M := kt_M167) kX5_byName_c12.2.2.2.1 rfl ?_
          refine kz_bi (M := kt_M167) 44 kX5_byName_c12.2.2.2.2.1 rfl ?_
          refine kz_cv0 (M := kt_M167) (c := 4) (o := 0) (As := [.int 44]) (rest := []) kX5_byName_c12.2.2.2.2.2.1 wl_X5_100 wMv_176 rfl (.inl rfl) rfl (Nat.le_trans (Nat.le_of_ble_eq_true rfl) hL) (Nat.le_of_ble_eq_true rfl) (Nat.le_of_ble_eq_true rfl) h (fun w17 hle h => ?_) (fun _ _ _ h => kzx_no rfl h)
          have h := h hle
          refine kz_aload_nv (M := kt_M167) (x := x1) kX5_byName_c12.2.2.2.2.2.2.1 rfl ?_
          refine kz_aloadv (M := kt_M167) (x := v10) kX5_byName_c12.2.2.2.2.2.2.2.1 rfl ?_
          obtain ⟨p19, hxp19, hlp19, h⟩ := h
          refine kz_nz1 (x := x1) hxp19 ?_
          refine kz_pfp (M := kt_M167) (n := v10) (c := 14) (o := p19) kX5_byName_c13.1 wq_X5_162 (.inr (by exact hlp19)) ?_
          refine kz_aload_nv (M := kt_M167) (x := x1) kX5_byName_c13.2.1 rfl ?_
          refine kz_aload_n (M := kt_M167) kX5_byName_c13.2.2.1 rfl ?_
          refine kz_ic (M := kt_M167) 0 kX5_byName_c13.2.2.2.1 rfl ?_
          refine kz_cv1 (M := kt_M167) (c := 4) (o := 0) (As := [.int 0]) (rest := [va_rf (x1)]) kX5_byName_c13.2.2.2.2.1 wl_X5_79 wMv_183 rfl (.inl rfl) rfl (Nat.le_trans (Nat.le_of_ble_eq_true rfl) hL) (Nat.le_of_ble_eq_true rfl) (by simp [kx_cat, w_cat, z_ci, z_cr, z_cl, z_cn]) h (fun v21 w20 hle h => ?_) (fun _ _ _ h => kzx_no rfl h)
          have h := h hle
          have hlp19 := w_l_le hlp19 hle
          refine kz_if_eq (M := kt_M167) kX5_byName_c13.2.2.2.2.2.1 (t := 237) rfl h (fun h => ?_) (fun h => ?_)
          · skip
            refine kz_aload_n (M := kt_M167) kX5_byName_c14.1 rfl ?_
            refine kz_ic (M := kt_M167) 5 kX5_byName_c14.2.1 rfl ?_
            refine kz_cv1 (M := kt_M167) (c := 4) (o := 0) (As := [.int 5]) (rest := [va_rf (x1)]) kX5_byName_c14.2.2.1 wl_X5_79 wMv_183 rfl (.inl rfl) rfl (Nat.le_trans (Nat.le_of_ble_eq_true rfl) hL) (Nat.le_of_ble_eq_true rfl) (by simp [kx_cat, w_cat, z_ci, z_cr, z_cl, z_cn]) h (fun v23 w22 hle h => ?_) (fun _ _ _ h => kzx_no rfl h)
            have h := h hle
            have hlp19 := w_l_le hlp19 hle
            refine kz_if_eq (M := kt_M167) kX5_byName_c14.2.2.2.1 (t := 251) rfl h (fun h => ?_) (fun h => ?_)
            · skip
              refine kz_getsE (M := kt_M167) (v := va_rf (some (E.1.1 40))) kX5_byName_c14.2.2.2.2.2.2.1 zs_X5_407 ?_
              exact kz_weak [(0, .ref (w_adr E.2.1 4 0)), (1, va_rf (x1)), (2, .int x2)] ⟨rfl, ⟨rfl, ⟨rfl, trivial⟩⟩⟩ rfl (zt_X5_byName_p254 hL  h)
            · skip
              refine kz_getsE (M := kt_M167) (v := va_rf (some (E.1.1 39))) kX5_byName_c14.2.2.2.2.1 zs_X5_404 ?_
              refine kz_goto (M := kt_M167) kX5_byName_c14.2.2.2.2.2.1 (t := 254) rfl ?_
              exact kz_weak [(0, .ref (w_adr E.2.1 4 0)), (1, va_rf (x1)), (2, .int x2)] ⟨rfl, ⟨rfl, ⟨rfl, trivial⟩⟩⟩ rfl (zt_X5_byName_p254 hL  h)
          · skip
            refine kz_getsE (M := kt_M167) (v := va_rf (some (E.1.1 38))) kX5_byName_c13.2.2.2.2.2.2.1 zs_X5_401 ?_
            refine kz_goto (M := kt_M167) kX5_byName_c13.2.2.2.2.2.2.2.1 (t := 254) rfl ?_
            exact kz_weak [(0, .ref (w_adr E.2.1 4 0)), (1, va_rf (x1)), (2, .int x2)] ⟨rfl, ⟨rfl, ⟨rfl, trivial⟩⟩⟩ rfl (zt_X5_byName_p254 hL  h)
        · skip
          refine kz_aload_nv (M := kt_M167) (x := x1) kX5_byName_c10.2.2.2.2.1 rfl ?_
          refine kz_getsE (M := kt_M167) (v := va_rf (some (E.1.1 37))) kX5_byName_c10.2.2.2.2.2.1 zs_X5_394 ?_
          obtain ⟨p24, hxp24, hlp24, h⟩ := h
          refine kz_nz1 (x := x1) hxp24 ?_
          refine kz_pfp (M := kt_M167) (n := some (E.1.1 37)) (c := 14) (o := p24) kX5_byName_c10.2.2.2.2.2.2.1 wq_X5_214 (.inr (by exact hlp24)) ?_
          refine kz_aload_nv (M := kt_M167) (x := x1) kX5_byName_c10.2.2.2.2.2.2.2.1 rfl ?_
          refine kz_aloadv (M := kt_M167) (x := v10) kX5_byName_c11.1 rfl ?_
          refine kz_nz1 (x := x1) hxp24 ?_
          refine kz_pfp (M := kt_M167) (n := v10) (c := 14) (o := p24) kX5_byName_c11.2.1 wq_X5_162 (.inr (by exact hlp24)) ?_
          refine kz_aload_n (M := kt_M167) kX5_byName_c11.2.2.1 rfl ?_
          refine kz_cv0 (M := kt_M167) (c := 4) (o := 0) (As := []) (rest := []) kX5_byName_c11.2.2.2.1 wl_X5_85 wMv_195 rfl (.inl rfl) rfl (Nat.le_trans (Nat.le_of_ble_eq_true rfl) hL) (Nat.le_of_ble_eq_true rfl) (Nat.le_of_ble_eq_true rfl) h (fun w25 hle h => ?_) (fun _ _ _ h => kzx_no rfl h)
          have h := h hle
          have hlp24 := w_l_le hlp24 hle
          refine kz_aload_nv (M := kt_M167) (x := x1) kX5_byName_c11.2.2.2.2.1 rfl ?_
          refine kz_aload_n (M := kt_M167) kX5_byName_c11.2.2.2.2.2.1 rfl ?_
          refine kz_bi (M := kt_M167) 41 kX5_byName_c11.2.2.2.2.2.2.1 rfl ?_
          refine kz_bi (M := kt_M167) 16 kX5_byName_c11.2.2.2.2.2.2.2.1 rfl ?_
          refine kz_cvr (M := kt_M167) (c := 4) (o := 0) (As := [.int 41, .int 16]) (rest := [va_rf (x1)]) kX5_byName_c12.1 wl_X5_397 wMv_208 rfl (.inl rfl) rfl (Nat.le_trans (Nat.le_of_ble_eq_true rfl) hL) (Nat.le_of_ble_eq_true rfl) (by simp [kx_cat, w_cat, z_ci, z_cr, z_cl, z_cn]) h (fun v28 w27 hle h => ?_) (fun _ _ _ h => kzx_no rfl h)
          have h := h hle
          have hlp24 := w_l_le hlp24 hle
          refine kz_nz1 (x := x1) hxp24 ?_
          refine kz_pfp (M := kt_M167) (n := v28) (c := 14) (o := p24) kX5_byName_c12.2.1 wq_X5_168 (.inr (by exact hlp24)) ?_
          refine kz_goto (M := kt_M167) kX5_byName_c12.2.2.1 (t := 312) rfl ?_
          exact kz_weak [(0, .ref (w_adr E.2.1 4 0)), (1, va_rf (x1)), (2, .int x2)] ⟨rfl, ⟨rfl, ⟨rfl, trivial⟩⟩⟩ rfl (zt_X5_byName_p312 hL  h)
      · skip
        exact kz_weak [(0, .ref (w_adr E.2.1 4 0)), (1, va_rf (x1)), (2, .int x2), (6, va_rf (v10))] ⟨rfl, ⟨rfl, ⟨rfl, ⟨rfl, trivial⟩⟩⟩⟩ rfl (zt_X5_byName_p91 hL  h)
  · skip
    refine kz_aload_nv (M := kt_M167) (x := x1) kX5_byName_c1.2.2.2.2.2.1 rfl ?_
    refine kz_getsE (M := kt_M167) (v := va_rf (some (E.1.1 35))) kX5_byName_c1.2.2.2.2.2.2.1 zs_X5_382 ?_
    obtain ⟨p29, hxp29, hlp29, h⟩ := h
    refine kz_nz1 (x := x1) hxp29 ?_
    refine kz_pfp (M := kt_M167) (n := some (E.1.1 35)) (c := 14) (o := p29) kX5_byName_c1.2.2.2.2.2.2.2.1 wq_X5_214 (.inr (by exact hlp29)) ?_
    refine kz_aload_nv (M := kt_M167) (x := x1) kX5_byName_c2.1 rfl ?_
    refine kz_iload (M := kt_M167) kX5_byName_c2.2.1 rfl ?_
    refine kz_nz1 (x := x1) hxp29 ?_
    refine kz_pfi (M := kt_M167) (c := 14) (o := p29) kX5_byName_c2.2.2.1 wq_X5_240 (.inr (by exact hlp29)) ?_
    refine kz_aload_nv (M := kt_M167) (x := x1) kX5_byName_c2.2.2.2.1 rfl ?_
    refine kz_aload_n (M := kt_M167) kX5_byName_c2.2.2.2.2.1 rfl ?_
    refine kz_cvr (M := kt_M167) (c := 4) (o := 0) (As := []) (rest := [va_rf (x1)]) kX5_byName_c2.2.2.2.2.2.1 wl_X5_385 wMv_162 rfl (.inl rfl) rfl (Nat.le_trans (Nat.le_of_ble_eq_true rfl) hL) (Nat.le_of_ble_eq_true rfl) (by simp [kx_cat, w_cat, z_ci, z_cr, z_cl, z_cn]) h (fun v31 w30 hle h => ?_) (fun _ _ _ h => kzx_no rfl h)
    have h := h hle
    have hlp29 := w_l_le hlp29 hle
    refine kz_nz1 (x := x1) hxp29 ?_
    refine kz_pfp (M := kt_M167) (n := v31) (c := 14) (o := p29) kX5_byName_c2.2.2.2.2.2.2.1 wq_X5_168 (.inr (by exact hlp29)) ?_
    refine kz_aload_n (M := kt_M167) kX5_byName_c2.2.2.2.2.2.2.2.1 rfl ?_
    refine kz_cv0 (M := kt_M167) (c := 4) (o := 0) (As := []) (rest := []) kX5_byName_c3.1 wl_X5_229 wMv_174 rfl (.inl rfl) rfl (Nat.le_trans (Nat.le_of_ble_eq_true rfl) hL) (Nat.le_of_ble_eq_true rfl) (Nat.le_of_ble_eq_true rfl) h (fun w32 hle h => ?_) (fun _ _ _ h => kzx_no rfl h)
    have h := h hle
    have hlp29 := w_l_le hlp29 hle
    exact kz_ret (M := kt_M167) kX5_byName_c3.2.1 rfl h
def zL_X5_elements_p10 (E : zE) (L : Nat) (Q : kx_Rs → wS → Prop) (x1 : Int32) (x2 : Option Nat) (x3 : Option Nat) (x4 : Int32) (w : wS) : Prop := kzE E L kt_M173 10 [(0, .ref (w_adr E.2.1 4 0)), (1, .int x1), (2, va_rf (x2)), (3, va_rf (x3)), (4, .int x4)] [] w Q
def zb_X5_elements_p33 (E : zE) (L : Nat) (Q : kx_Rs → wS → Prop) (x1 : Int32) (x2 : Option Nat) (x3 : Option Nat) (x4 : Int32) (w : wS) : Prop := zw E (L - 22) kt_M172 [.ref (w_adr E.2.1 4 0)] w (wkr (fun v2 w1 => wle w w1 → zw E (L - 21) kt_M166 [va_rf (x3), va_rf (v2)] w1 (wkr (fun v4 w3 => wle w1 w3 → zL_X5_elements_p10 E L Q x1 x2 v4 (x4 + 1) w3) (fun e w => Q (.inr e) w))) (fun e w => Q (.inr e) w))
theorem zt_X5_elements_p33 {E : zE} {L : Nat} {Q : kx_Rs → wS → Prop} {x1 : Int32} {x2 : Option Nat} {x3 : Option Nat} {x4 : Int32} {w : wS} (hL : 22 ≤ L) (h : zb_X5_elements_p33 E L Q x1 x2 x3 x4 w) : kzE E L kt_M173 33 [(0, .ref (w_adr E.2.1 4 0)), (1, .int x1), (2, va_rf (x2)), (3, va_rf (x3)), (4, .int x4)] [] w Q := by
  unfold zb_X5_elements_p33 at h
  refine kz_aload_nv (M := kt_M173) (x := x3) kX5_elements_c2.2.2.1 rfl ?_
  refine kz_aload_n (M := kt_M173) kX5_elements_c2.2.2.2.1 rfl ?_
  refine kz_cvr (M := kt_M173) (c := 4) (o := 0) (As := []) (rest := [va_rf (x3)]) kX5_elements_c2.2.2.2.2.1 wl_X5_249 wMv_172 rfl (.inl rfl) rfl (Nat.le_trans (Nat.le_of_ble_eq_true rfl) hL) (Nat.le_of_ble_eq_true rfl) (by simp [kx_cat, w_cat, z_ci, z_cr, z_cl, z_cn]) h (fun v2 w1 hle h => ?_) (fun _ _ _ h => kzx_no rfl h)
  have h := h hle
  refine kz_csr (M := kt_M173) (As := [va_rf (x3), va_rf (v2)]) (rest := []) kX5_elements_c2.2.2.2.2.2.1 wl_X5_158 wMs_166 rfl (Nat.le_trans (Nat.le_of_ble_eq_true rfl) hL) (by simp [lg_sl, w_cat, z_ci, z_cr, z_cl, z_cn, kt_M166]) (Nat.le_of_ble_eq_true rfl) h (fun v4 w3 hle h => ?_) (fun _ _ _ h => kzx_no rfl h)
  have h := h hle
  refine kz_stv_n (M := kt_M173) (x := v4) [(0, .ref (w_adr E.2.1 4 0)), (1, .int x1), (2, va_rf (x2)), (4, .int x4)] kX5_elements_c2.2.2.2.2.2.2.1 (Nat.le_of_ble_eq_true rfl) ⟨⟨rfl, rfl, .inl rfl⟩, ⟨⟨rfl, rfl, .inl rfl⟩, ⟨⟨rfl, rfl, .inr (w_cat (x2))⟩, ⟨⟨rfl, rfl, .inl rfl⟩, trivial⟩⟩⟩⟩ rfl ?_
  refine kz_inc (M := kt_M173) [(0, .ref (w_adr E.2.1 4 0)), (1, .int x1), (2, va_rf (x2)), (3, va_rf (v4))] kX5_elements_c2.2.2.2.2.2.2.2.1 rfl (Nat.le_of_ble_eq_true rfl) ⟨⟨rfl, rfl, .inl rfl⟩, ⟨⟨rfl, rfl, .inl rfl⟩, ⟨⟨rfl, rfl, .inl rfl⟩, ⟨⟨rfl, rfl, .inr (w_cat (v4))⟩, trivial⟩⟩⟩⟩ rfl ?_
  refine kz_goto (M := kt_M173) kX5_elements_c3.1 (t := 10) rfl ?_
  exact kz_weak [(0, .ref (w_adr E.2.1 4 0)), (1, .int x1), (2, va_rf (x2)), (3, va_rf (v4)), (4, .int (x4 + 1))] ⟨rfl, ⟨rfl, ⟨rfl, ⟨rfl, ⟨rfl, trivial⟩⟩⟩⟩⟩ rfl h
def zb_X5_elements_p10 (E : zE) (L : Nat) (Q : kx_Rs → wS → Prop) (x1 : Int32) (x2 : Option Nat) (x3 : Option Nat) (x4 : Int32) (w : wS) : Prop := zw E (L - 21) kt_M183 [.ref (w_adr E.2.1 4 0), .int x1] w (wk1 (fun v2 w1 => wle w w1 → (if v2 = 0 then Q (.inl (some (va_rf (x2)))) w1 else zw E (L - 20) kt_M195 [.ref (w_adr E.2.1 4 0)] w1 (wk0 (fun w3 => wle w1 w3 → (if ¬ x4 = 16 then zb_X5_elements_p33 E L Q x1 x2 x3 x4 w3 else zw E (L - 20) kt_M213 [.ref (w_adr E.2.1 4 0)] w3 (wk0 (fun w5 => wle w3 w5 → zb_X5_elements_p33 E L Q x1 x2 x3 x4 w5) (fun e w => Q (.inr e) w)))) (fun e w => Q (.inr e) w)))) (fun e w => Q (.inr e) w))
theorem zt_X5_elements_p10 {E : zE} {L : Nat} {Q : kx_Rs → wS → Prop} {x1 : Int32} {x2 : Option Nat} {x3 : Option Nat} {x4 : Int32} {w : wS} (hL : 22 ≤ L) (h : zb_X5_elements_p10 E L Q x1 x2 x3 x4 w) : kzE E L kt_M173 10 [(0, .ref (w_adr E.2.1 4 0)), (1, .int x1), (2, va_rf (x2)), (3, va_rf (x3)), (4, .int x4)] [] w Q := by
  unfold zb_X5_elements_p10 at h
  refine kz_aload_n (M := kt_M173) kX5_elements_c0.2.2.2.2.2.2.2.1 rfl ?_
  refine kz_iload_n (M := kt_M173) kX5_elements_c1.1 rfl ?_
  refine kz_cv1 (M := kt_M173) (c := 4) (o := 0) (As := [.int x1]) (rest := []) kX5_elements_c1.2.1 wl_X5_79 wMv_183 rfl (.inl rfl) rfl (Nat.le_trans (Nat.le_of_ble_eq_true rfl) hL) (Nat.le_of_ble_eq_true rfl) (Nat.le_of_ble_eq_true rfl) h (fun v2 w1 hle h => ?_) (fun _ _ _ h => kzx_no rfl h)
  have h := h hle
  refine kz_if_eq (M := kt_M173) kX5_elements_c1.2.2.1 (t := 48) rfl h (fun h => ?_) (fun h => ?_)
  · skip
    refine kz_aload_nv (M := kt_M173) (x := x2) kX5_elements_c3.2.1 rfl ?_
    exact kz_areto (x := x2) (M := kt_M173) kX5_elements_c3.2.2.1 rfl h
  · skip
    refine kz_aload_n (M := kt_M173) kX5_elements_c1.2.2.2.1 rfl ?_
    refine kz_cv0 (M := kt_M173) (c := 4) (o := 0) (As := []) (rest := []) kX5_elements_c1.2.2.2.2.1 wl_X5_85 wMv_195 rfl (.inl rfl) rfl (Nat.le_trans (Nat.le_of_ble_eq_true rfl) hL) (Nat.le_of_ble_eq_true rfl) (Nat.le_of_ble_eq_true rfl) h (fun w3 hle h => ?_) (fun _ _ _ h => kzx_no rfl h)
    have h := h hle
    refine kz_iload (M := kt_M173) kX5_elements_c1.2.2.2.2.2.1 rfl ?_
    refine kz_bi (M := kt_M173) 16 kX5_elements_c1.2.2.2.2.2.2.1 rfl ?_
    refine kz_icmp_ne (M := kt_M173) kX5_elements_c1.2.2.2.2.2.2.2.1 (t := 33) rfl h (fun h => ?_) (fun h => ?_)
    · skip
      exact kz_weak [(0, .ref (w_adr E.2.1 4 0)), (1, .int x1), (2, va_rf (x2)), (3, va_rf (x3)), (4, .int x4)] ⟨rfl, ⟨rfl, ⟨rfl, ⟨rfl, ⟨rfl, trivial⟩⟩⟩⟩⟩ rfl (zt_X5_elements_p33 hL  h)
    · skip
      refine kz_aload_n (M := kt_M173) kX5_elements_c2.1 rfl ?_
      refine kz_cv0 (M := kt_M173) (c := 4) (o := 0) (As := []) (rest := []) kX5_elements_c2.2.1 wl_X5_82 wMv_213 rfl (.inl rfl) rfl (Nat.le_trans (Nat.le_of_ble_eq_true rfl) hL) (Nat.le_of_ble_eq_true rfl) (Nat.le_of_ble_eq_true rfl) h (fun w5 hle h => ?_) (fun _ _ _ h => kzx_no rfl h)
      have h := h hle
      exact kz_weak [(0, .ref (w_adr E.2.1 4 0)), (1, .int x1), (2, va_rf (x2)), (3, va_rf (x3)), (4, .int x4)] ⟨rfl, ⟨rfl, ⟨rfl, ⟨rfl, ⟨rfl, trivial⟩⟩⟩⟩⟩ rfl (zt_X5_elements_p33 hL  h)
def zb_X5_elements_p0 (E : zE) (L : Nat) (Q : kx_Rs → wS → Prop) (x1 : Int32) (w : wS) : Prop := zw E (L - 22) kt_M172 [.ref (w_adr E.2.1 4 0)] w (wkr (fun v2 w1 => wle w w1 → zL_X5_elements_p10 E L Q x1 v2 v2 1 w1) (fun e w => Q (.inr e) w))
theorem zt_X5_elements_p0 {E : zE} {L : Nat} {Q : kx_Rs → wS → Prop} {x1 : Int32} {w : wS} (hL : 22 ≤ L) (h : zb_X5_elements_p0 E L Q x1 w) : kzE E L kt_M173 0 [(0, .ref (w_adr E.2.1 4 0)), (1, .int x1)] [] w Q := by
  unfold zb_X5_elements_p0 at h
  refine kz_aload_n (M := kt_M173) kX5_elements_c0.1 rfl ?_
  refine kz_cvr (M := kt_M173) (c := 4) (o := 0) (As := []) (rest := []) kX5_elements_c0.2.1 wl_X5_249 wMv_172 rfl (.inl rfl) rfl (Nat.le_trans (Nat.le_of_ble_eq_true rfl) hL) (Nat.le_of_ble_eq_true rfl) (Nat.le_of_ble_eq_true rfl) h (fun v2 w1 hle h => ?_) (fun _ _ _ h => kzx_no rfl h)
  have h := h hle
  refine kz_stv_n (M := kt_M173) (x := v2) [(0, .ref (w_adr E.2.1 4 0)), (1, .int x1)] kX5_elements_c0.2.2.1 (Nat.le_of_ble_eq_true rfl) ⟨⟨rfl, rfl, .inl rfl⟩, ⟨⟨rfl, rfl, .inr rfl⟩, trivial⟩⟩ rfl ?_
  refine kz_aload_nv (M := kt_M173) (x := v2) kX5_elements_c0.2.2.2.1 rfl ?_
  refine kz_stv_n (M := kt_M173) (x := v2) [(0, .ref (w_adr E.2.1 4 0)), (1, .int x1), (2, va_rf (v2))] kX5_elements_c0.2.2.2.2.1 (Nat.le_of_ble_eq_true rfl) ⟨⟨rfl, rfl, .inl rfl⟩, ⟨⟨rfl, rfl, .inl rfl⟩, ⟨⟨rfl, rfl, .inr (w_cat (v2))⟩, trivial⟩⟩⟩ rfl ?_
  refine kz_ic (M := kt_M173) 1 kX5_elements_c0.2.2.2.2.2.1 rfl ?_
  refine kz_sti (M := kt_M173) [(0, .ref (w_adr E.2.1 4 0)), (1, .int x1), (2, va_rf (v2)), (3, va_rf (v2))] kX5_elements_c0.2.2.2.2.2.2.1 (Nat.le_of_ble_eq_true rfl) ⟨⟨rfl, rfl, .inl rfl⟩, ⟨⟨rfl, rfl, .inl rfl⟩, ⟨⟨rfl, rfl, .inl rfl⟩, ⟨⟨rfl, rfl, .inr (w_cat (v2))⟩, trivial⟩⟩⟩⟩ rfl ?_
  exact kz_weak [(0, .ref (w_adr E.2.1 4 0)), (1, .int x1), (2, va_rf (v2)), (3, va_rf (v2)), (4, .int 1)] ⟨rfl, ⟨rfl, ⟨rfl, ⟨rfl, ⟨rfl, trivial⟩⟩⟩⟩⟩ rfl h
def zL_X5_variants_p13 (E : zE) (L : Nat) (Q : kx_Rs → wS → Prop) (x1 : Int32) (x2 : Option Nat) (x3 : Option Nat) (w : wS) : Prop := kzE E L kt_M215 13 [(0, .ref (w_adr E.2.1 4 0)), (1, .int x1), (2, va_rf (x2)), (3, va_rf (x3))] [] w Q
def zb_X5_variants_p79 (E : zE) (L : Nat) (Q : kx_Rs → wS → Prop) (x1 : Int32) (x2 : Option Nat) (x3 : Option Nat) (w : wS) : Prop := zw E (L - 20) kt_M174 [.ref (w_adr E.2.1 4 0)] w (wk0 (fun w1 => wle w w1 → zw E (L - 23) kt_M202 [.ref (w_adr E.2.1 4 0), .int (x1 + 1)] w1 (wkr (fun v4 w3 => wle w1 w3 → (∃ p5, x3 = some p5 ∧ w_l w3 E.2.1 14 p5 ∧ zL_X5_variants_p13 E L Q x1 x2 x3 (ws_p w3 14 p5 6 v4))) (fun e w => Q (.inr e) w))) (fun e w => Q (.inr e) w))
theorem zt_X5_variants_p79 {E : zE} {L : Nat} {Q : kx_Rs → wS → Prop} {x1 : Int32} {x2 : Option Nat} {x3 : Option Nat} {w : wS} (hL : 24 ≤ L) (h : zb_X5_variants_p79 E L Q x1 x2 x3 w) : kzE E L kt_M215 79 [(0, .ref (w_adr E.2.1 4 0)), (1, .int x1), (2, va_rf (x2)), (3, va_rf (x3))] [] w Q := by
  unfold zb_X5_variants_p79 at h
  refine kz_aload_n (M := kt_M215) kX5_variants_c5.2.2.2.1 rfl ?_
  refine kz_cv0 (M := kt_M215) (c := 4) (o := 0) (As := []) (rest := []) kX5_variants_c5.2.2.2.2.1 wl_X5_229 wMv_174 rfl (.inl rfl) rfl (Nat.le_trans (Nat.le_of_ble_eq_true rfl) hL) (Nat.le_of_ble_eq_true rfl) (Nat.le_of_ble_eq_true rfl) h (fun w1 hle h => ?_) (fun _ _ _ h => kzx_no rfl h)
  have h := h hle
  refine kz_aload_nv (M := kt_M215) (x := x3) kX5_variants_c5.2.2.2.2.2.1 rfl ?_
  refine kz_aload_n (M := kt_M215) kX5_variants_c5.2.2.2.2.2.2.1 rfl ?_
  refine kz_iload_n (M := kt_M215) kX5_variants_c5.2.2.2.2.2.2.2.1 rfl ?_
  refine kz_ic (M := kt_M215) 1 kX5_variants_c6.1 rfl ?_
  refine kz_iadd (M := kt_M215) kX5_variants_c6.2.1 ?_
  refine kz_cvr (M := kt_M215) (c := 4) (o := 0) (As := [.int (x1 + 1)]) (rest := [va_rf (x3)]) kX5_variants_c6.2.2.1 wl_X5_133 wMv_202 rfl (.inl rfl) rfl (Nat.le_trans (Nat.le_of_ble_eq_true rfl) hL) (Nat.le_of_ble_eq_true rfl) (by simp [kx_cat, w_cat, z_ci, z_cr, z_cl, z_cn]) h (fun v4 w3 hle h => ?_) (fun _ _ _ h => kzx_no rfl h)
  have h := h hle
  obtain ⟨p5, hxp5, hlp5, h⟩ := h
  refine kz_nz1 (x := x3) hxp5 ?_
  refine kz_pfp (M := kt_M215) (n := v4) (c := 14) (o := p5) kX5_variants_c6.2.2.2.1 wq_X5_288 (.inr (by exact hlp5)) ?_
  refine kz_goto (M := kt_M215) kX5_variants_c6.2.2.2.2.1 (t := 13) rfl ?_
  exact kz_weak [(0, .ref (w_adr E.2.1 4 0)), (1, .int x1), (2, va_rf (x2)), (3, va_rf (x3))] ⟨rfl, ⟨rfl, ⟨rfl, ⟨rfl, trivial⟩⟩⟩⟩ rfl h
def zb_X5_variants_p48 (E : zE) (L : Nat) (Q : kx_Rs → wS → Prop) (x1 : Int32) (x2 : Option Nat) (x3 : Option Nat) (w : wS) : Prop := zw E (L - 21) kt_M193 [.ref (w_adr E.2.1 4 0)] w (wk1 (fun v2 w1 => wle w w1 → (∃ p3, x3 = some p3 ∧ w_l w1 E.2.1 14 p3 ∧ zw E (L - 21) kt_M183 [.ref (w_adr E.2.1 4 0), .int 41] (ws_i w1 14 p3 9 v2) (wk1 (fun v5 w4 => wle (ws_i w1 14 p3 9 v2) w4 → (if v5 = 0 then zb_X5_variants_p79 E L Q x1 x2 x3 w4 else zw E (L - 20) kt_M195 [.ref (w_adr E.2.1 4 0)] w4 (wk0 (fun w6 => wle w4 w6 → zw E (L - 24) kt_M173 [.ref (w_adr E.2.1 4 0), .int 41] w6 (wkr (fun v9 w8 => wle w6 w8 → zb_X5_variants_p79 E L Q x1 x2 x3 (ws_p w8 14 p3 4 v9)) (fun e w => Q (.inr e) w))) (fun e w => Q (.inr e) w)))) (fun e w => Q (.inr e) w)))) (fun e w => Q (.inr e) w))
theorem zt_X5_variants_p48 {E : zE} {L : Nat} {Q : kx_Rs → wS → Prop} {x1 : Int32} {x2 : Option Nat} {x3 : Option Nat} {w : wS} (hL : 24 ≤ L) (h : zb_X5_variants_p48 E L Q x1 x2 x3 w) : kzE E L kt_M215 48 [(0, .ref (w_adr E.2.1 4 0)), (1, .int x1), (2, va_rf (x2)), (3, va_rf (x3))] [] w Q := by
  unfold zb_X5_variants_p48 at h
  refine kz_aload_nv (M := kt_M215) (x := x3) kX5_variants_c3.2.2.2.2.1 rfl ?_
  refine kz_aload_n (M := kt_M215) kX5_variants_c3.2.2.2.2.2.1 rfl ?_
  refine kz_cv1 (M := kt_M215) (c := 4) (o := 0) (As := []) (rest := [va_rf (x3)]) kX5_variants_c3.2.2.2.2.2.2.1 wl_X5_237 wMv_193 rfl (.inl rfl) rfl (Nat.le_trans (Nat.le_of_ble_eq_true rfl) hL) (Nat.le_of_ble_eq_true rfl) (by simp [kx_cat, w_cat, z_ci, z_cr, z_cl, z_cn]) h (fun v2 w1 hle h => ?_) (fun _ _ _ h => kzx_no rfl h)
  have h := h hle
  obtain ⟨p3, hxp3, hlp3, h⟩ := h
  refine kz_nz1 (x := x3) hxp3 ?_
  refine kz_pfi (M := kt_M215) (c := 14) (o := p3) kX5_variants_c3.2.2.2.2.2.2.2.1 wq_X5_240 (.inr (by exact hlp3)) ?_
  refine kz_aload_n (M := kt_M215) kX5_variants_c4.1 rfl ?_
  refine kz_bi (M := kt_M215) 41 kX5_variants_c4.2.1 rfl ?_
  refine kz_cv1 (M := kt_M215) (c := 4) (o := 0) (As := [.int 41]) (rest := []) kX5_variants_c4.2.2.1 wl_X5_79 wMv_183 rfl (.inl rfl) rfl (Nat.le_trans (Nat.le_of_ble_eq_true rfl) hL) (Nat.le_of_ble_eq_true rfl) (Nat.le_of_ble_eq_true rfl) h (fun v5 w4 hle h => ?_) (fun _ _ _ h => kzx_no rfl h)
  have h := h hle
  have hlp3 := w_l_le hlp3 hle
  refine kz_if_eq (M := kt_M215) kX5_variants_c4.2.2.2.1 (t := 79) rfl h (fun h => ?_) (fun h => ?_)
  · skip
    exact kz_weak [(0, .ref (w_adr E.2.1 4 0)), (1, .int x1), (2, va_rf (x2)), (3, va_rf (x3))] ⟨rfl, ⟨rfl, ⟨rfl, ⟨rfl, trivial⟩⟩⟩⟩ rfl (zt_X5_variants_p79 hL  h)
  · skip
    refine kz_aload_n (M := kt_M215) kX5_variants_c4.2.2.2.2.1 rfl ?_
    refine kz_cv0 (M := kt_M215) (c := 4) (o := 0) (As := []) (rest := []) kX5_variants_c4.2.2.2.2.2.1 wl_X5_85 wMv_195 rfl (.inl rfl) rfl (Nat.le_trans (Nat.le_of_ble_eq_true rfl) hL) (Nat.le_of_ble_eq_true rfl) (Nat.le_of_ble_eq_true rfl) h (fun w6 hle h => ?_) (fun _ _ _ h => kzx_no rfl h)
    have h := h hle
    have hlp3 := w_l_le hlp3 hle
    refine kz_aload_nv (M := kt_M215) (x := x3) kX5_variants_c4.2.2.2.2.2.2.1 rfl ?_
    refine kz_aload_n (M := kt_M215) kX5_variants_c4.2.2.2.2.2.2.2.1 rfl ?_
    refine kz_bi (M := kt_M215) 41 kX5_variants_c5.1 rfl ?_
    refine kz_cvr (M := kt_M215) (c := 4) (o := 0) (As := [.int 41]) (rest := [va_rf (x3)]) kX5_variants_c5.2.1 wl_X5_373 wMv_173 rfl (.inl rfl) rfl (Nat.le_trans (Nat.le_of_ble_eq_true rfl) hL) (Nat.le_of_ble_eq_true rfl) (by simp [kx_cat, w_cat, z_ci, z_cr, z_cl, z_cn]) h (fun v9 w8 hle h => ?_) (fun _ _ _ h => kzx_no rfl h)
    have h := h hle
    have hlp3 := w_l_le hlp3 hle
    refine kz_nz1 (x := x3) hxp3 ?_
    refine kz_pfp (M := kt_M215) (n := v9) (c := 14) (o := p3) kX5_variants_c5.2.2.1 wq_X5_168 (.inr (by exact hlp3)) ?_
    exact kz_weak [(0, .ref (w_adr E.2.1 4 0)), (1, .int x1), (2, va_rf (x2)), (3, va_rf (x3))] ⟨rfl, ⟨rfl, ⟨rfl, ⟨rfl, trivial⟩⟩⟩⟩ rfl (zt_X5_variants_p79 hL  h)
def zb_X5_variants_p13 (E : zE) (L : Nat) (Q : kx_Rs → wS → Prop) (x1 : Int32) (x2 : Option Nat) (x3 : Option Nat) (w : wS) : Prop := zw E (L - 21) kt_M192 [.ref (w_adr E.2.1 4 0), .int x1] w (wk1 (fun v2 w1 => wle w w1 → (if v2 = 0 then Q (.inl (some (va_rf (x2)))) w1 else zw E (L - 20) kt_M184 [.ref (w_adr E.2.1 4 0)] w1 (wk1 (fun v4 w3 => wle w1 w3 → zw E (L - 22) kt_M211 [.ref (w_adr E.2.1 4 0), .int x1, .int v4] w3 (wk0 (fun w5 => wle w3 w5 → zw E (L - 21) kt_M196 [.ref (w_adr E.2.1 4 0), va_rf (some (E.1.1 41))] w5 (wkr (fun v8 w7 => wle w5 w7 → zw E (L - 21) kt_M166 [va_rf (x3), va_rf (v8)] w7 (wkr (fun v10 w9 => wle w7 w9 → (if ¬ x2 = none then zb_X5_variants_p48 E L Q x1 x2 v10 w9 else zb_X5_variants_p48 E L Q x1 v10 v10 w9)) (fun e w => Q (.inr e) w))) (fun e w => Q (.inr e) w))) (fun e w => Q (.inr e) w))) (fun e w => Q (.inr e) w)))) (fun e w => Q (.inr e) w))
theorem zt_X5_variants_p13 {E : zE} {L : Nat} {Q : kx_Rs → wS → Prop} {x1 : Int32} {x2 : Option Nat} {x3 : Option Nat} {w : wS} (hL : 24 ≤ L) (h : zb_X5_variants_p13 E L Q x1 x2 x3 w) : kzE E L kt_M215 13 [(0, .ref (w_adr E.2.1 4 0)), (1, .int x1), (2, va_rf (x2)), (3, va_rf (x3))] [] w Q := by
  unfold zb_X5_variants_p13 at h
  refine kz_aload_n (M := kt_M215) kX5_variants_c1.2.1 rfl ?_
  refine kz_iload_n (M := kt_M215) kX5_variants_c1.2.2.1 rfl ?_
  refine kz_cv1 (M := kt_M215) (c := 4) (o := 0) (As := [.int x1]) (rest := []) kX5_variants_c1.2.2.2.1 wl_X5_110 wMv_192 rfl (.inl rfl) rfl (Nat.le_trans (Nat.le_of_ble_eq_true rfl) hL) (Nat.le_of_ble_eq_true rfl) (Nat.le_of_ble_eq_true rfl) h (fun v2 w1 hle h => ?_) (fun _ _ _ h => kzx_no rfl h)
  have h := h hle
  refine kz_if_eq (M := kt_M215) kX5_variants_c1.2.2.2.2.1 (t := 97) rfl h (fun h => ?_) (fun h => ?_)
  · skip
    refine kz_aload_nv (M := kt_M215) (x := x2) kX5_variants_c6.2.2.2.2.2.1 rfl ?_
    exact kz_areto (x := x2) (M := kt_M215) kX5_variants_c6.2.2.2.2.2.2.1 rfl h
  · skip
    refine kz_aload_n (M := kt_M215) kX5_variants_c1.2.2.2.2.2.1 rfl ?_
    refine kz_iload_n (M := kt_M215) kX5_variants_c1.2.2.2.2.2.2.1 rfl ?_
    refine kz_aload_n (M := kt_M215) kX5_variants_c1.2.2.2.2.2.2.2.1 rfl ?_
    refine kz_cv1 (M := kt_M215) (c := 4) (o := 0) (As := []) (rest := [.int x1, .ref (w_adr E.2.1 4 0)]) kX5_variants_c2.1 wl_X5_91 wMv_184 rfl (.inl rfl) rfl (Nat.le_trans (Nat.le_of_ble_eq_true rfl) hL) (Nat.le_of_ble_eq_true rfl) (Nat.le_of_ble_eq_true rfl) h (fun v4 w3 hle h => ?_) (fun _ _ _ h => kzx_no rfl h)
    have h := h hle
    refine kz_cv0 (M := kt_M215) (c := 4) (o := 0) (As := [.int x1, .int v4]) (rest := []) kX5_variants_c2.2.1 wl_X5_143 wMv_211 rfl (.inl rfl) rfl (Nat.le_trans (Nat.le_of_ble_eq_true rfl) hL) (Nat.le_of_ble_eq_true rfl) (Nat.le_of_ble_eq_true rfl) h (fun w5 hle h => ?_) (fun _ _ _ h => kzx_no rfl h)
    have h := h hle
    refine kz_aload_nv (M := kt_M215) (x := x3) kX5_variants_c2.2.2.1 rfl ?_
    refine kz_aload_n (M := kt_M215) kX5_variants_c2.2.2.2.1 rfl ?_
    refine kz_getsE (M := kt_M215) (v := va_rf (some (E.1.1 41))) kX5_variants_c2.2.2.2.2.1 zs_X5_379 ?_
    refine kz_cvr (M := kt_M215) (c := 4) (o := 0) (As := [va_rf (some (E.1.1 41))]) (rest := [va_rf (x3)]) kX5_variants_c2.2.2.2.2.2.1 wl_X5_152 wMv_196 rfl (.inl rfl) rfl (Nat.le_trans (Nat.le_of_ble_eq_true rfl) hL) (by simp [lg_sl, w_cat, z_ci, z_cr, z_cl, z_cn, kt_M196]) (by simp [kx_cat, w_cat, z_ci, z_cr, z_cl, z_cn]) h (fun v8 w7 hle h => ?_) (fun _ _ _ h => kzx_no rfl h)
    have h := h hle
    refine kz_csr (M := kt_M215) (As := [va_rf (x3), va_rf (v8)]) (rest := []) kX5_variants_c2.2.2.2.2.2.2.1 wl_X5_158 wMs_166 rfl (Nat.le_trans (Nat.le_of_ble_eq_true rfl) hL) (by simp [lg_sl, w_cat, z_ci, z_cr, z_cl, z_cn, kt_M166]) (Nat.le_of_ble_eq_true rfl) h (fun v10 w9 hle h => ?_) (fun _ _ _ h => kzx_no rfl h)
    have h := h hle
    refine kz_stv_n (M := kt_M215) (x := v10) [(0, .ref (w_adr E.2.1 4 0)), (1, .int x1), (2, va_rf (x2))] kX5_variants_c2.2.2.2.2.2.2.2.1 (Nat.le_of_ble_eq_true rfl) ⟨⟨rfl, rfl, .inl rfl⟩, ⟨⟨rfl, rfl, .inl rfl⟩, ⟨⟨rfl, rfl, .inr (w_cat (x2))⟩, trivial⟩⟩⟩ rfl ?_
    refine kz_aload_nv (M := kt_M215) (x := x2) kX5_variants_c3.1 rfl ?_
    refine kz_ifnonnull (M := kt_M215) (x := x2) kX5_variants_c3.2.1 (t := 48) rfl h (fun h => ?_) (fun h => ?_)
    · skip
      exact kz_weak [(0, .ref (w_adr E.2.1 4 0)), (1, .int x1), (2, va_rf (x2)), (3, va_rf (v10))] ⟨rfl, ⟨rfl, ⟨rfl, ⟨rfl, trivial⟩⟩⟩⟩ rfl (zt_X5_variants_p48 hL  h)
    · skip
      refine kz_aload_nv (M := kt_M215) (x := v10) kX5_variants_c3.2.2.1 rfl ?_
      refine kz_stv_n (M := kt_M215) (x := v10) [(0, .ref (w_adr E.2.1 4 0)), (1, .int x1), (3, va_rf (v10))] kX5_variants_c3.2.2.2.1 (Nat.le_of_ble_eq_true rfl) ⟨⟨rfl, rfl, .inl rfl⟩, ⟨⟨rfl, rfl, .inr rfl⟩, ⟨⟨rfl, rfl, .inl rfl⟩, trivial⟩⟩⟩ rfl ?_
      exact kz_weak [(0, .ref (w_adr E.2.1 4 0)), (1, .int x1), (2, va_rf (v10)), (3, va_rf (v10))] ⟨rfl, ⟨rfl, ⟨rfl, ⟨rfl, trivial⟩⟩⟩⟩ rfl (zt_X5_variants_p48 hL  h)
def zb_X5_variants_p0 (E : zE) (L : Nat) (Q : kx_Rs → wS → Prop) (x1 : Int32) (w : wS) : Prop := zw E (L - 20) kt_M184 [.ref (w_adr E.2.1 4 0)] w (wk1 (fun v2 w1 => wle w w1 → zw E (L - 22) kt_M211 [.ref (w_adr E.2.1 4 0), .int x1, .int v2] w1 (wk0 (fun w3 => wle w1 w3 → zL_X5_variants_p13 E L Q x1 none none w3) (fun e w => Q (.inr e) w))) (fun e w => Q (.inr e) w))
theorem zt_X5_variants_p0 {E : zE} {L : Nat} {Q : kx_Rs → wS → Prop} {x1 : Int32} {w : wS} (hL : 24 ≤ L) (h : zb_X5_variants_p0 E L Q x1 w) : kzE E L kt_M215 0 [(0, .ref (w_adr E.2.1 4 0)), (1, .int x1)] [] w Q := by
  unfold zb_X5_variants_p0 at h
  refine kz_null (M := kt_M215) kX5_variants_c0.1 ?_
  refine kz_stv_n (M := kt_M215) (x := none) [(0, .ref (w_adr E.2.1 4 0)), (1, .int x1)] kX5_variants_c0.2.1 (Nat.le_of_ble_eq_true rfl) ⟨⟨rfl, rfl, .inl rfl⟩, ⟨⟨rfl, rfl, .inr rfl⟩, trivial⟩⟩ rfl ?_
  refine kz_null (M := kt_M215) kX5_variants_c0.2.2.1 ?_
  refine kz_stv_n (M := kt_M215) (x := none) [(0, .ref (w_adr E.2.1 4 0)), (1, .int x1), (2, va_rf (none))] kX5_variants_c0.2.2.2.1 (Nat.le_of_ble_eq_true rfl) ⟨⟨rfl, rfl, .inl rfl⟩, ⟨⟨rfl, rfl, .inl rfl⟩, ⟨⟨rfl, rfl, .inr (w_cat (none))⟩, trivial⟩⟩⟩ rfl ?_
  refine kz_aload_n (M := kt_M215) kX5_variants_c0.2.2.2.2.1 rfl ?_
  refine kz_iload_n (M := kt_M215) kX5_variants_c0.2.2.2.2.2.1 rfl ?_
  refine kz_aload_n (M := kt_M215) kX5_variants_c0.2.2.2.2.2.2.1 rfl ?_
  refine kz_cv1 (M := kt_M215) (c := 4) (o := 0) (As := []) (rest := [.int x1, .ref (w_adr E.2.1 4 0)]) kX5_variants_c0.2.2.2.2.2.2.2.1 wl_X5_91 wMv_184 rfl (.inl rfl) rfl (Nat.le_trans (Nat.le_of_ble_eq_true rfl) hL) (Nat.le_of_ble_eq_true rfl) (Nat.le_of_ble_eq_true rfl) h (fun v2 w1 hle h => ?_) (fun _ _ _ h => kzx_no rfl h)
  have h := h hle
  refine kz_cv0 (M := kt_M215) (c := 4) (o := 0) (As := [.int x1, .int v2]) (rest := []) kX5_variants_c1.1 wl_X5_143 wMv_211 rfl (.inl rfl) rfl (Nat.le_trans (Nat.le_of_ble_eq_true rfl) hL) (Nat.le_of_ble_eq_true rfl) (Nat.le_of_ble_eq_true rfl) h (fun w3 hle h => ?_) (fun _ _ _ h => kzx_no rfl h)
  have h := h hle
  exact kz_weak [(0, .ref (w_adr E.2.1 4 0)), (1, .int x1), (2, va_rf (none)), (3, va_rf (none))] ⟨rfl, ⟨rfl, ⟨rfl, ⟨rfl, trivial⟩⟩⟩⟩ rfl h
def zb_X5_replicator_p0 (E : zE) (L : Nat) (Q : kx_Rs → wS → Prop) (w : wS) : Prop := zw E (L - 20) kt_M184 [.ref (w_adr E.2.1 4 0)] w (wk1 (fun v2 w1 => wle w w1 → (if ¬ v2 = 0 then zw E (L - 21) kt_M196 [.ref (w_adr E.2.1 4 0), va_rf (some (E.1.1 45))] w1 (wkr (fun v4 w3 => wle w1 w3 → zw E (L - 21) kt_M193 [.ref (w_adr E.2.1 4 0)] w3 (wk1 (fun v6 w5 => wle w3 w5 → (∃ p7, v4 = some p7 ∧ w_l w5 E.2.1 14 p7 ∧ zw E (L - 21) kt_M176 [.ref (w_adr E.2.1 4 0), .int 47] (ws_i w5 14 p7 9 v6) (wk0 (fun w8 => wle (ws_i w5 14 p7 9 v6) w8 → zw E (L - 22) kt_M177 [.ref (w_adr E.2.1 4 0)] w8 (wkr (fun v11 w10 => wle w8 w10 → zw E (L - 21) kt_M176 [.ref (w_adr E.2.1 4 0), .int 9] (ws_p w10 14 p7 3 v11) (wk0 (fun w12 => wle (ws_p w10 14 p7 3 v11) w12 → zw E (L - 22) kt_M177 [.ref (w_adr E.2.1 4 0)] w12 (wkr (fun v15 w14 => wle w12 w14 → Q (.inl (some (va_rf (v4)))) (ws_p w14 14 p7 4 v15)) (fun e w => Q (.inr e) w))) (fun e w => Q (.inr e) w))) (fun e w => Q (.inr e) w))) (fun e w => Q (.inr e) w)))) (fun e w => Q (.inr e) w))) (fun e w => Q (.inr e) w)) else Q (.inl (some (va_rf none))) w1)) (fun e w => Q (.inr e) w))
theorem zt_X5_replicator_p0 {E : zE} {L : Nat} {Q : kx_Rs → wS → Prop} {w : wS} (hL : 22 ≤ L) (h : zb_X5_replicator_p0 E L Q  w) : kzE E L kt_M206 0 [(0, .ref (w_adr E.2.1 4 0))] [] w Q := by
  unfold zb_X5_replicator_p0 at h
  refine kz_aload_n (M := kt_M206) kX5_replicator_c0.1 rfl ?_
  refine kz_cv1 (M := kt_M206) (c := 4) (o := 0) (As := []) (rest := []) kX5_replicator_c0.2.1 wl_X5_91 wMv_184 rfl (.inl rfl) rfl (Nat.le_trans (Nat.le_of_ble_eq_true rfl) hL) (Nat.le_of_ble_eq_true rfl) (Nat.le_of_ble_eq_true rfl) h (fun v2 w1 hle h => ?_) (fun _ _ _ h => kzx_no rfl h)
  have h := h hle
  refine kz_if_ne (M := kt_M206) kX5_replicator_c0.2.2.1 (t := 9) rfl h (fun h => ?_) (fun h => ?_)
  · skip
    refine kz_aload_n (M := kt_M206) kX5_replicator_c0.2.2.2.2.2.1 rfl ?_
    refine kz_getsE (M := kt_M206) (v := va_rf (some (E.1.1 45))) kX5_replicator_c0.2.2.2.2.2.2.1 zs_X5_340 ?_
    refine kz_cvr (M := kt_M206) (c := 4) (o := 0) (As := [va_rf (some (E.1.1 45))]) (rest := []) kX5_replicator_c0.2.2.2.2.2.2.2.1 wl_X5_152 wMv_196 rfl (.inl rfl) rfl (Nat.le_trans (Nat.le_of_ble_eq_true rfl) hL) (by simp [lg_sl, w_cat, z_ci, z_cr, z_cl, z_cn, kt_M196]) (Nat.le_of_ble_eq_true rfl) h (fun v4 w3 hle h => ?_) (fun _ _ _ h => kzx_no rfl h)
    have h := h hle
    refine kz_stv_n (M := kt_M206) (x := v4) [(0, .ref (w_adr E.2.1 4 0))] kX5_replicator_c1.1 (Nat.le_of_ble_eq_true rfl) ⟨⟨rfl, rfl, .inr rfl⟩, trivial⟩ rfl ?_
    refine kz_aload_nv (M := kt_M206) (x := v4) kX5_replicator_c1.2.1 rfl ?_
    refine kz_aload_n (M := kt_M206) kX5_replicator_c1.2.2.1 rfl ?_
    refine kz_cv1 (M := kt_M206) (c := 4) (o := 0) (As := []) (rest := [va_rf (v4)]) kX5_replicator_c1.2.2.2.1 wl_X5_237 wMv_193 rfl (.inl rfl) rfl (Nat.le_trans (Nat.le_of_ble_eq_true rfl) hL) (Nat.le_of_ble_eq_true rfl) (by simp [kx_cat, w_cat, z_ci, z_cr, z_cl, z_cn]) h (fun v6 w5 hle h => ?_) (fun _ _ _ h => kzx_no rfl h)
    have h := h hle
    obtain ⟨p7, hxp7, hlp7, h⟩ := h
    refine kz_nz1 (x := v4) hxp7 ?_
    refine kz_pfi (M := kt_M206) (c := 14) (o := p7) kX5_replicator_c1.2.2.2.2.1 wq_X5_240 (.inr (by exact hlp7)) ?_
    refine kz_aload_n (M := kt_M206) kX5_replicator_c1.2.2.2.2.2.1 rfl ?_
    refine kz_bi (M := kt_M206) 47 kX5_replicator_c1.2.2.2.2.2.2.1 rfl ?_
    refine kz_cv0 (M := kt_M206) (c := 4) (o := 0) (As := [.int 47]) (rest := []) kX5_replicator_c1.2.2.2.2.2.2.2.1 wl_X5_100 wMv_176 rfl (.inl rfl) rfl (Nat.le_trans (Nat.le_of_ble_eq_true rfl) hL) (Nat.le_of_ble_eq_true rfl) (Nat.le_of_ble_eq_true rfl) h (fun w8 hle h => ?_) (fun _ _ _ h => kzx_no rfl h)
    have h := h hle
    have hlp7 := w_l_le hlp7 hle
    refine kz_aload_nv (M := kt_M206) (x := v4) kX5_replicator_c2.1 rfl ?_
    refine kz_aload_n (M := kt_M206) kX5_replicator_c2.2.1 rfl ?_
    refine kz_cvr (M := kt_M206) (c := 4) (o := 0) (As := []) (rest := [va_rf (v4)]) kX5_replicator_c2.2.2.1 wl_X5_194 wMv_177 rfl (.inl rfl) rfl (Nat.le_trans (Nat.le_of_ble_eq_true rfl) hL) (Nat.le_of_ble_eq_true rfl) (by simp [kx_cat, w_cat, z_ci, z_cr, z_cl, z_cn]) h (fun v11 w10 hle h => ?_) (fun _ _ _ h => kzx_no rfl h)
    have h := h hle
    have hlp7 := w_l_le hlp7 hle
    refine kz_nz1 (x := v4) hxp7 ?_
    refine kz_pfp (M := kt_M206) (n := v11) (c := 14) (o := p7) kX5_replicator_c2.2.2.2.1 wq_X5_162 (.inr (by exact hlp7)) ?_
    refine kz_aload_n (M := kt_M206) kX5_replicator_c2.2.2.2.2.1 rfl ?_
    refine kz_bi (M := kt_M206) 9 kX5_replicator_c2.2.2.2.2.2.1 rfl ?_
    refine kz_cv0 (M := kt_M206) (c := 4) (o := 0) (As := [.int 9]) (rest := []) kX5_replicator_c2.2.2.2.2.2.2.1 wl_X5_100 wMv_176 rfl (.inl rfl) rfl (Nat.le_trans (Nat.le_of_ble_eq_true rfl) hL) (Nat.le_of_ble_eq_true rfl) (Nat.le_of_ble_eq_true rfl) h (fun w12 hle h => ?_) (fun _ _ _ h => kzx_no rfl h)
    have h := h hle
    have hlp7 := w_l_le hlp7 hle
    refine kz_aload_nv (M := kt_M206) (x := v4) kX5_replicator_c2.2.2.2.2.2.2.2.1 rfl ?_
    refine kz_aload_n (M := kt_M206) kX5_replicator_c3.1 rfl ?_
    refine kz_cvr (M := kt_M206) (c := 4) (o := 0) (As := []) (rest := [va_rf (v4)]) kX5_replicator_c3.2.1 wl_X5_194 wMv_177 rfl (.inl rfl) rfl (Nat.le_trans (Nat.le_of_ble_eq_true rfl) hL) (Nat.le_of_ble_eq_true rfl) (by simp [kx_cat, w_cat, z_ci, z_cr, z_cl, z_cn]) h (fun v15 w14 hle h => ?_) (fun _ _ _ h => kzx_no rfl h)
    have h := h hle
    have hlp7 := w_l_le hlp7 hle
    refine kz_nz1 (x := v4) hxp7 ?_
    refine kz_pfp (M := kt_M206) (n := v15) (c := 14) (o := p7) kX5_replicator_c3.2.2.1 wq_X5_168 (.inr (by exact hlp7)) ?_
    refine kz_aload_nv (M := kt_M206) (x := v4) kX5_replicator_c3.2.2.2.1 rfl ?_
    exact kz_areto (x := v4) (M := kt_M206) kX5_replicator_c3.2.2.2.2.1 rfl h
  · skip
    refine kz_null (M := kt_M206) kX5_replicator_c0.2.2.2.1 ?_
    exact kz_areto (x := none) (M := kt_M206) kX5_replicator_c0.2.2.2.2.1 rfl h
def zL_X5_processes_p15 (E : zE) (L : Nat) (Q : kx_Rs → wS → Prop) (x1 : Int32) (x3 : Option Nat) (x4 : Option Nat) (w : wS) : Prop := kzE E L kt_M203 15 [(0, .ref (w_adr E.2.1 4 0)), (1, .int x1), (3, va_rf (x3)), (4, va_rf (x4))] [] w Q
def zb_X5_processes_p15 (E : zE) (L : Nat) (Q : kx_Rs → wS → Prop) (x1 : Int32) (x3 : Option Nat) (x4 : Option Nat) (w : wS) : Prop := zw E (L - 21) kt_M192 [.ref (w_adr E.2.1 4 0), .int x1] w (wk1 (fun v2 w1 => wle w w1 → (if v2 = 0 then Q (.inl (some (va_rf (x3)))) w1 else zw E (L - 23) kt_M202 [.ref (w_adr E.2.1 4 0), .int x1] w1 (wkr (fun v4 w3 => wle w1 w3 → zw E (L - 21) kt_M166 [va_rf (x4), va_rf (v4)] w3 (wkr (fun v6 w5 => wle w3 w5 → (if ¬ x3 = none then zL_X5_processes_p15 E L Q x1 x3 v6 w5 else zL_X5_processes_p15 E L Q x1 v6 v6 w5)) (fun e w => Q (.inr e) w))) (fun e w => Q (.inr e) w)))) (fun e w => Q (.inr e) w))
theorem zt_X5_processes_p15 {E : zE} {L : Nat} {Q : kx_Rs → wS → Prop} {x1 : Int32} {x3 : Option Nat} {x4 : Option Nat} {w : wS} (hL : 23 ≤ L) (h : zb_X5_processes_p15 E L Q x1 x3 x4 w) : kzE E L kt_M203 15 [(0, .ref (w_adr E.2.1 4 0)), (1, .int x1), (3, va_rf (x3)), (4, va_rf (x4))] [] w Q := by
  unfold zb_X5_processes_p15 at h
  refine kz_aload_n (M := kt_M203) kX5_processes_c1.2.2.1 rfl ?_
  refine kz_iload_n (M := kt_M203) kX5_processes_c1.2.2.2.1 rfl ?_
  refine kz_cv1 (M := kt_M203) (c := 4) (o := 0) (As := [.int x1]) (rest := []) kX5_processes_c1.2.2.2.2.1 wl_X5_110 wMv_192 rfl (.inl rfl) rfl (Nat.le_trans (Nat.le_of_ble_eq_true rfl) hL) (Nat.le_of_ble_eq_true rfl) (Nat.le_of_ble_eq_true rfl) h (fun v2 w1 hle h => ?_) (fun _ _ _ h => kzx_no rfl h)
  have h := h hle
  refine kz_if_eq (M := kt_M203) kX5_processes_c1.2.2.2.2.2.1 (t := 45) rfl h (fun h => ?_) (fun h => ?_)
  · skip
    refine kz_aload_nv (M := kt_M203) (x := x3) kX5_processes_c3.2.1 rfl ?_
    exact kz_areto (x := x3) (M := kt_M203) kX5_processes_c3.2.2.1 rfl h
  · skip
    refine kz_aloadv (M := kt_M203) (x := x4) kX5_processes_c1.2.2.2.2.2.2.1 rfl ?_
    refine kz_aload_n (M := kt_M203) kX5_processes_c1.2.2.2.2.2.2.2.1 rfl ?_
    refine kz_iload_n (M := kt_M203) kX5_processes_c2.1 rfl ?_
    refine kz_cvr (M := kt_M203) (c := 4) (o := 0) (As := [.int x1]) (rest := [va_rf (x4)]) kX5_processes_c2.2.1 wl_X5_133 wMv_202 rfl (.inl rfl) rfl (Nat.le_trans (Nat.le_of_ble_eq_true rfl) hL) (Nat.le_of_ble_eq_true rfl) (by simp [kx_cat, w_cat, z_ci, z_cr, z_cl, z_cn]) h (fun v4 w3 hle h => ?_) (fun _ _ _ h => kzx_no rfl h)
    have h := h hle
    refine kz_csr (M := kt_M203) (As := [va_rf (x4), va_rf (v4)]) (rest := []) kX5_processes_c2.2.2.1 wl_X5_158 wMs_166 rfl (Nat.le_trans (Nat.le_of_ble_eq_true rfl) hL) (by simp [lg_sl, w_cat, z_ci, z_cr, z_cl, z_cn, kt_M166]) (Nat.le_of_ble_eq_true rfl) h (fun v6 w5 hle h => ?_) (fun _ _ _ h => kzx_no rfl h)
    have h := h hle
    refine kz_stv (M := kt_M203) (x := v6) [(0, .ref (w_adr E.2.1 4 0)), (1, .int x1), (3, va_rf (x3))] kX5_processes_c2.2.2.2.1 (Nat.le_of_ble_eq_true rfl) ⟨⟨rfl, rfl, .inl rfl⟩, ⟨⟨rfl, rfl, .inl rfl⟩, ⟨⟨rfl, rfl, .inr (w_cat (x3))⟩, trivial⟩⟩⟩ rfl ?_
    refine kz_aload_nv (M := kt_M203) (x := x3) kX5_processes_c2.2.2.2.2.1 rfl ?_
    refine kz_ifnonnull (M := kt_M203) (x := x3) kX5_processes_c2.2.2.2.2.2.1 (t := 15) rfl h (fun h => ?_) (fun h => ?_)
    · skip
      exact kz_weak [(0, .ref (w_adr E.2.1 4 0)), (1, .int x1), (3, va_rf (x3)), (4, va_rf (v6))] ⟨rfl, ⟨rfl, ⟨rfl, ⟨rfl, trivial⟩⟩⟩⟩ rfl h
    · skip
      refine kz_aloadv (M := kt_M203) (x := v6) kX5_processes_c2.2.2.2.2.2.2.1 rfl ?_
      refine kz_stv_n (M := kt_M203) (x := v6) [(0, .ref (w_adr E.2.1 4 0)), (1, .int x1), (4, va_rf (v6))] kX5_processes_c2.2.2.2.2.2.2.2.1 (Nat.le_of_ble_eq_true rfl) ⟨⟨rfl, rfl, .inl rfl⟩, ⟨⟨rfl, rfl, .inl rfl⟩, ⟨⟨rfl, rfl, .inl rfl⟩, trivial⟩⟩⟩ rfl ?_
      refine kz_goto (M := kt_M203) kX5_processes_c3.1 (t := 15) rfl ?_
      exact kz_weak [(0, .ref (w_adr E.2.1 4 0)), (1, .int x1), (3, va_rf (v6)), (4, va_rf (v6))] ⟨rfl, ⟨rfl, ⟨rfl, ⟨rfl, trivial⟩⟩⟩⟩ rfl h
def zb_X5_processes_p0 (E : zE) (L : Nat) (Q : kx_Rs → wS → Prop) (x1 : Int32) (x2 : Int32) (w : wS) : Prop := (if x2 = 0 then zL_X5_processes_p15 E L Q x1 none none w else zw E (L - 23) kt_M202 [.ref (w_adr E.2.1 4 0), .int x1] w (wkr (fun v2 w1 => wle w w1 → Q (.inl (some (va_rf (v2)))) w1) (fun e w => Q (.inr e) w)))
theorem zt_X5_processes_p0 {E : zE} {L : Nat} {Q : kx_Rs → wS → Prop} {x1 : Int32} {x2 : Int32} {w : wS} (hL : 23 ≤ L) (h : zb_X5_processes_p0 E L Q x1 x2 w) : kzE E L kt_M203 0 [(0, .ref (w_adr E.2.1 4 0)), (1, .int x1), (2, .int x2)] [] w Q := by
  unfold zb_X5_processes_p0 at h
  refine kz_iload_n (M := kt_M203) kX5_processes_c0.1 rfl ?_
  refine kz_if_eq (M := kt_M203) kX5_processes_c0.2.1 (t := 10) rfl h (fun h => ?_) (fun h => ?_)
  · skip
    refine kz_null (M := kt_M203) kX5_processes_c0.2.2.2.2.2.2.1 ?_
    refine kz_stv_n (M := kt_M203) (x := none) [(0, .ref (w_adr E.2.1 4 0)), (1, .int x1)] kX5_processes_c0.2.2.2.2.2.2.2.1 (Nat.le_of_ble_eq_true rfl) ⟨⟨rfl, rfl, .inl rfl⟩, ⟨⟨rfl, rfl, .inl rfl⟩, trivial⟩⟩ rfl ?_
    refine kz_null (M := kt_M203) kX5_processes_c1.1 ?_
    refine kz_stv (M := kt_M203) (x := none) [(0, .ref (w_adr E.2.1 4 0)), (1, .int x1), (3, va_rf (none))] kX5_processes_c1.2.1 (Nat.le_of_ble_eq_true rfl) ⟨⟨rfl, rfl, .inl rfl⟩, ⟨⟨rfl, rfl, .inl rfl⟩, ⟨⟨rfl, rfl, .inr (w_cat (none))⟩, trivial⟩⟩⟩ rfl ?_
    exact kz_weak [(0, .ref (w_adr E.2.1 4 0)), (1, .int x1), (3, va_rf (none)), (4, va_rf (none))] ⟨rfl, ⟨rfl, ⟨rfl, ⟨rfl, trivial⟩⟩⟩⟩ rfl h
  · skip
    refine kz_aload_n (M := kt_M203) kX5_processes_c0.2.2.1 rfl ?_
    refine kz_iload_n (M := kt_M203) kX5_processes_c0.2.2.2.1 rfl ?_
    refine kz_cvr (M := kt_M203) (c := 4) (o := 0) (As := [.int x1]) (rest := []) kX5_processes_c0.2.2.2.2.1 wl_X5_133 wMv_202 rfl (.inl rfl) rfl (Nat.le_trans (Nat.le_of_ble_eq_true rfl) hL) (Nat.le_of_ble_eq_true rfl) (Nat.le_of_ble_eq_true rfl) h (fun v2 w1 hle h => ?_) (fun _ _ _ h => kzx_no rfl h)
    have h := h hle
    exact kz_areto (x := v2) (M := kt_M203) kX5_processes_c0.2.2.2.2.2.1 rfl h
def zL_X5_choices_p4 (E : zE) (L : Nat) (Q : kx_Rs → wS → Prop) (x1 : Int32) (x2 : Option Nat) (x3 : Option Nat) (w : wS) : Prop := kzE E L kt_M169 4 [(0, .ref (w_adr E.2.1 4 0)), (1, .int x1), (2, va_rf (x2)), (3, va_rf (x3))] [] w Q
def zb_X5_choices_p43 (E : zE) (L : Nat) (Q : kx_Rs → wS → Prop) (x1 : Int32) (x2 : Option Nat) (x3 : Option Nat) (w : wS) : Prop := zw E (L - 22) kt_M177 [.ref (w_adr E.2.1 4 0)] w (wkr (fun v2 w1 => wle w w1 → (∃ p3, x3 = some p3 ∧ w_l w1 E.2.1 14 p3 ∧ zw E (L - 20) kt_M174 [.ref (w_adr E.2.1 4 0)] (ws_p w1 14 p3 3 v2) (wk0 (fun w4 => wle (ws_p w1 14 p3 3 v2) w4 → zw E (L - 23) kt_M202 [.ref (w_adr E.2.1 4 0), .int (x1 + 2)] w4 (wkr (fun v7 w6 => wle w4 w6 → zL_X5_choices_p4 E L Q x1 x2 x3 (ws_p w6 14 p3 4 v7)) (fun e w => Q (.inr e) w))) (fun e w => Q (.inr e) w)))) (fun e w => Q (.inr e) w))
theorem zt_X5_choices_p43 {E : zE} {L : Nat} {Q : kx_Rs → wS → Prop} {x1 : Int32} {x2 : Option Nat} {x3 : Option Nat} {w : wS} (hL : 23 ≤ L) (h : zb_X5_choices_p43 E L Q x1 x2 x3 w) : kzE E L kt_M169 43 [(0, .ref (w_adr E.2.1 4 0)), (1, .int x1), (2, va_rf (x2)), (3, va_rf (x3))] [] w Q := by
  unfold zb_X5_choices_p43 at h
  refine kz_aload_nv (M := kt_M169) (x := x3) kX5_choices_c3.2.2.2.1 rfl ?_
  refine kz_aload_n (M := kt_M169) kX5_choices_c3.2.2.2.2.1 rfl ?_
  refine kz_cvr (M := kt_M169) (c := 4) (o := 0) (As := []) (rest := [va_rf (x3)]) kX5_choices_c3.2.2.2.2.2.1 wl_X5_194 wMv_177 rfl (.inl rfl) rfl (Nat.le_trans (Nat.le_of_ble_eq_true rfl) hL) (Nat.le_of_ble_eq_true rfl) (by simp [kx_cat, w_cat, z_ci, z_cr, z_cl, z_cn]) h (fun v2 w1 hle h => ?_) (fun _ _ _ h => kzx_no rfl h)
  have h := h hle
  obtain ⟨p3, hxp3, hlp3, h⟩ := h
  refine kz_nz1 (x := x3) hxp3 ?_
  refine kz_pfp (M := kt_M169) (n := v2) (c := 14) (o := p3) kX5_choices_c3.2.2.2.2.2.2.1 wq_X5_162 (.inr (by exact hlp3)) ?_
  refine kz_aload_n (M := kt_M169) kX5_choices_c3.2.2.2.2.2.2.2.1 rfl ?_
  refine kz_cv0 (M := kt_M169) (c := 4) (o := 0) (As := []) (rest := []) kX5_choices_c4.1 wl_X5_229 wMv_174 rfl (.inl rfl) rfl (Nat.le_trans (Nat.le_of_ble_eq_true rfl) hL) (Nat.le_of_ble_eq_true rfl) (Nat.le_of_ble_eq_true rfl) h (fun w4 hle h => ?_) (fun _ _ _ h => kzx_no rfl h)
  have h := h hle
  have hlp3 := w_l_le hlp3 hle
  refine kz_aload_nv (M := kt_M169) (x := x3) kX5_choices_c4.2.1 rfl ?_
  refine kz_aload_n (M := kt_M169) kX5_choices_c4.2.2.1 rfl ?_
  refine kz_iload_n (M := kt_M169) kX5_choices_c4.2.2.2.1 rfl ?_
  refine kz_ic (M := kt_M169) 2 kX5_choices_c4.2.2.2.2.1 rfl ?_
  refine kz_iadd (M := kt_M169) kX5_choices_c4.2.2.2.2.2.1 ?_
  refine kz_cvr (M := kt_M169) (c := 4) (o := 0) (As := [.int (x1 + 2)]) (rest := [va_rf (x3)]) kX5_choices_c4.2.2.2.2.2.2.1 wl_X5_133 wMv_202 rfl (.inl rfl) rfl (Nat.le_trans (Nat.le_of_ble_eq_true rfl) hL) (Nat.le_of_ble_eq_true rfl) (by simp [kx_cat, w_cat, z_ci, z_cr, z_cl, z_cn]) h (fun v7 w6 hle h => ?_) (fun _ _ _ h => kzx_no rfl h)
  have h := h hle
  have hlp3 := w_l_le hlp3 hle
  refine kz_nz1 (x := x3) hxp3 ?_
  refine kz_pfp (M := kt_M169) (n := v7) (c := 14) (o := p3) kX5_choices_c4.2.2.2.2.2.2.2.1 wq_X5_168 (.inr (by exact hlp3)) ?_
  refine kz_goto (M := kt_M169) kX5_choices_c5.1 (t := 4) rfl ?_
  exact kz_weak [(0, .ref (w_adr E.2.1 4 0)), (1, .int x1), (2, va_rf (x2)), (3, va_rf (x3))] ⟨rfl, ⟨rfl, ⟨rfl, ⟨rfl, trivial⟩⟩⟩⟩ rfl h
def zb_X5_choices_p4 (E : zE) (L : Nat) (Q : kx_Rs → wS → Prop) (x1 : Int32) (x2 : Option Nat) (x3 : Option Nat) (w : wS) : Prop := zw E (L - 21) kt_M192 [.ref (w_adr E.2.1 4 0), .int (x1 + 1)] w (wk1 (fun v2 w1 => wle w w1 → (if v2 = 0 then Q (.inl (some (va_rf (x2)))) w1 else zw E (L - 21) kt_M165 [.ref (w_adr E.2.1 4 0)] w1 (wk1 (fun v4 w3 => wle w1 w3 → zw E (L - 22) kt_M211 [.ref (w_adr E.2.1 4 0), .int (x1 + 1), .int v4] w3 (wk0 (fun w5 => wle w3 w5 → zw E (L - 21) kt_M196 [.ref (w_adr E.2.1 4 0), va_rf (some (E.1.1 47))] w5 (wkr (fun v8 w7 => wle w5 w7 → zw E (L - 21) kt_M166 [va_rf (x3), va_rf (v8)] w7 (wkr (fun v10 w9 => wle w7 w9 → (if ¬ x2 = none then zb_X5_choices_p43 E L Q x1 x2 v10 w9 else zb_X5_choices_p43 E L Q x1 v10 v10 w9)) (fun e w => Q (.inr e) w))) (fun e w => Q (.inr e) w))) (fun e w => Q (.inr e) w))) (fun e w => Q (.inr e) w)))) (fun e w => Q (.inr e) w))
theorem zt_X5_choices_p4 {E : zE} {L : Nat} {Q : kx_Rs → wS → Prop} {x1 : Int32} {x2 : Option Nat} {x3 : Option Nat} {w : wS} (hL : 23 ≤ L) (h : zb_X5_choices_p4 E L Q x1 x2 x3 w) : kzE E L kt_M169 4 [(0, .ref (w_adr E.2.1 4 0)), (1, .int x1), (2, va_rf (x2)), (3, va_rf (x3))] [] w Q := by
  unfold zb_X5_choices_p4 at h
  refine kz_aload_n (M := kt_M169) kX5_choices_c0.2.2.2.2.1 rfl ?_
  refine kz_iload_n (M := kt_M169) kX5_choices_c0.2.2.2.2.2.1 rfl ?_
  refine kz_ic (M := kt_M169) 1 kX5_choices_c0.2.2.2.2.2.2.1 rfl ?_
  refine kz_iadd (M := kt_M169) kX5_choices_c0.2.2.2.2.2.2.2.1 ?_
  refine kz_cv1 (M := kt_M169) (c := 4) (o := 0) (As := [.int (x1 + 1)]) (rest := []) kX5_choices_c1.1 wl_X5_110 wMv_192 rfl (.inl rfl) rfl (Nat.le_trans (Nat.le_of_ble_eq_true rfl) hL) (Nat.le_of_ble_eq_true rfl) (Nat.le_of_ble_eq_true rfl) h (fun v2 w1 hle h => ?_) (fun _ _ _ h => kzx_no rfl h)
  have h := h hle
  refine kz_if_eq (M := kt_M169) kX5_choices_c1.2.1 (t := 69) rfl h (fun h => ?_) (fun h => ?_)
  · skip
    refine kz_aload_nv (M := kt_M169) (x := x2) kX5_choices_c5.2.1 rfl ?_
    exact kz_areto (x := x2) (M := kt_M169) kX5_choices_c5.2.2.1 rfl h
  · skip
    refine kz_aload_n (M := kt_M169) kX5_choices_c1.2.2.1 rfl ?_
    refine kz_iload_n (M := kt_M169) kX5_choices_c1.2.2.2.1 rfl ?_
    refine kz_ic (M := kt_M169) 1 kX5_choices_c1.2.2.2.2.1 rfl ?_
    refine kz_iadd (M := kt_M169) kX5_choices_c1.2.2.2.2.2.1 ?_
    refine kz_aload_n (M := kt_M169) kX5_choices_c1.2.2.2.2.2.2.1 rfl ?_
    refine kz_cv1 (M := kt_M169) (c := 4) (o := 0) (As := []) (rest := [.int (x1 + 1), .ref (w_adr E.2.1 4 0)]) kX5_choices_c1.2.2.2.2.2.2.2.1 wl_X5_343 wMv_165 rfl (.inl rfl) rfl (Nat.le_trans (Nat.le_of_ble_eq_true rfl) hL) (Nat.le_of_ble_eq_true rfl) (Nat.le_of_ble_eq_true rfl) h (fun v4 w3 hle h => ?_) (fun _ _ _ h => kzx_no rfl h)
    have h := h hle
    refine kz_cv0 (M := kt_M169) (c := 4) (o := 0) (As := [.int (x1 + 1), .int v4]) (rest := []) kX5_choices_c2.1 wl_X5_143 wMv_211 rfl (.inl rfl) rfl (Nat.le_trans (Nat.le_of_ble_eq_true rfl) hL) (Nat.le_of_ble_eq_true rfl) (Nat.le_of_ble_eq_true rfl) h (fun w5 hle h => ?_) (fun _ _ _ h => kzx_no rfl h)
    have h := h hle
    refine kz_aload_nv (M := kt_M169) (x := x3) kX5_choices_c2.2.1 rfl ?_
    refine kz_aload_n (M := kt_M169) kX5_choices_c2.2.2.1 rfl ?_
    refine kz_getsE (M := kt_M169) (v := va_rf (some (E.1.1 47))) kX5_choices_c2.2.2.2.1 zs_X5_346 ?_
    refine kz_cvr (M := kt_M169) (c := 4) (o := 0) (As := [va_rf (some (E.1.1 47))]) (rest := [va_rf (x3)]) kX5_choices_c2.2.2.2.2.1 wl_X5_152 wMv_196 rfl (.inl rfl) rfl (Nat.le_trans (Nat.le_of_ble_eq_true rfl) hL) (by simp [lg_sl, w_cat, z_ci, z_cr, z_cl, z_cn, kt_M196]) (by simp [kx_cat, w_cat, z_ci, z_cr, z_cl, z_cn]) h (fun v8 w7 hle h => ?_) (fun _ _ _ h => kzx_no rfl h)
    have h := h hle
    refine kz_csr (M := kt_M169) (As := [va_rf (x3), va_rf (v8)]) (rest := []) kX5_choices_c2.2.2.2.2.2.1 wl_X5_158 wMs_166 rfl (Nat.le_trans (Nat.le_of_ble_eq_true rfl) hL) (by simp [lg_sl, w_cat, z_ci, z_cr, z_cl, z_cn, kt_M166]) (Nat.le_of_ble_eq_true rfl) h (fun v10 w9 hle h => ?_) (fun _ _ _ h => kzx_no rfl h)
    have h := h hle
    refine kz_stv_n (M := kt_M169) (x := v10) [(0, .ref (w_adr E.2.1 4 0)), (1, .int x1), (2, va_rf (x2))] kX5_choices_c2.2.2.2.2.2.2.1 (Nat.le_of_ble_eq_true rfl) ⟨⟨rfl, rfl, .inl rfl⟩, ⟨⟨rfl, rfl, .inl rfl⟩, ⟨⟨rfl, rfl, .inr (w_cat (x2))⟩, trivial⟩⟩⟩ rfl ?_
    refine kz_aload_nv (M := kt_M169) (x := x2) kX5_choices_c2.2.2.2.2.2.2.2.1 rfl ?_
    refine kz_ifnonnull (M := kt_M169) (x := x2) kX5_choices_c3.1 (t := 43) rfl h (fun h => ?_) (fun h => ?_)
    · skip
      exact kz_weak [(0, .ref (w_adr E.2.1 4 0)), (1, .int x1), (2, va_rf (x2)), (3, va_rf (v10))] ⟨rfl, ⟨rfl, ⟨rfl, ⟨rfl, trivial⟩⟩⟩⟩ rfl (zt_X5_choices_p43 hL  h)
    · skip
      refine kz_aload_nv (M := kt_M169) (x := v10) kX5_choices_c3.2.1 rfl ?_
      refine kz_stv_n (M := kt_M169) (x := v10) [(0, .ref (w_adr E.2.1 4 0)), (1, .int x1), (3, va_rf (v10))] kX5_choices_c3.2.2.1 (Nat.le_of_ble_eq_true rfl) ⟨⟨rfl, rfl, .inl rfl⟩, ⟨⟨rfl, rfl, .inr rfl⟩, ⟨⟨rfl, rfl, .inl rfl⟩, trivial⟩⟩⟩ rfl ?_
      exact kz_weak [(0, .ref (w_adr E.2.1 4 0)), (1, .int x1), (2, va_rf (v10)), (3, va_rf (v10))] ⟨rfl, ⟨rfl, ⟨rfl, ⟨rfl, trivial⟩⟩⟩⟩ rfl (zt_X5_choices_p43 hL  h)
def zb_X5_choices_p0 (E : zE) (L : Nat) (Q : kx_Rs → wS → Prop) (x1 : Int32) (w : wS) : Prop := zL_X5_choices_p4 E L Q x1 none none w
theorem zt_X5_choices_p0 {E : zE} {L : Nat} {Q : kx_Rs → wS → Prop} {x1 : Int32} {w : wS} (hL : 23 ≤ L) (h : zb_X5_choices_p0 E L Q x1 w) : kzE E L kt_M169 0 [(0, .ref (w_adr E.2.1 4 0)), (1, .int x1)] [] w Q := by
  unfold zb_X5_choices_p0 at h
  refine kz_null (M := kt_M169) kX5_choices_c0.1 ?_
  refine kz_stv_n (M := kt_M169) (x := none) [(0, .ref (w_adr E.2.1 4 0)), (1, .int x1)] kX5_choices_c0.2.1 (Nat.le_of_ble_eq_true rfl) ⟨⟨rfl, rfl, .inl rfl⟩, ⟨⟨rfl, rfl, .inr rfl⟩, trivial⟩⟩ rfl ?_
  refine kz_null (M := kt_M169) kX5_choices_c0.2.2.1 ?_
  refine kz_stv_n (M := kt_M169) (x := none) [(0, .ref (w_adr E.2.1 4 0)), (1, .int x1), (2, va_rf (none))] kX5_choices_c0.2.2.2.1 (Nat.le_of_ble_eq_true rfl) ⟨⟨rfl, rfl, .inl rfl⟩, ⟨⟨rfl, rfl, .inl rfl⟩, ⟨⟨rfl, rfl, .inr (w_cat (none))⟩, trivial⟩⟩⟩ rfl ?_
  exact kz_weak [(0, .ref (w_adr E.2.1 4 0)), (1, .int x1), (2, va_rf (none)), (3, va_rf (none))] ⟨rfl, ⟨rfl, ⟨rfl, ⟨rfl, trivial⟩⟩⟩⟩ rfl h
def zb_X5_beginsExpression_p154 (E : zE) (L : Nat) (Q : kx_Rs → wS → Prop) (y0 : Int32) (w : wS) : Prop := ((y0 = 0 ∨ y0 = 1) ∧ Q (.inl (some (.int y0))) w)
theorem zt_X5_beginsExpression_p154 {E : zE} {L : Nat} {Q : kx_Rs → wS → Prop} {y0 : Int32} {w : wS} (hL : 21 ≤ L) (h : zb_X5_beginsExpression_p154 E L Q y0 w) : kzE E L kt_M165 154 [(0, .ref (w_adr E.2.1 4 0))] [.int y0] w Q := by
  unfold zb_X5_beginsExpression_p154 at h
  exact kz_iretz (M := kt_M165) kX5_beginsExpression_c8.2.2.2.2.2.2.2.1 rfl h.1 h.2
def zb_X5_beginsExpression_p149 (E : zE) (L : Nat) (Q : kx_Rs → wS → Prop) (w : wS) : Prop := zb_X5_beginsExpression_p154 E L Q 1 w
theorem zt_X5_beginsExpression_p149 {E : zE} {L : Nat} {Q : kx_Rs → wS → Prop} {w : wS} (hL : 21 ≤ L) (h : zb_X5_beginsExpression_p149 E L Q  w) : kzE E L kt_M165 149 [(0, .ref (w_adr E.2.1 4 0))] [] w Q := by
  unfold zb_X5_beginsExpression_p149 at h
  refine kz_ic (M := kt_M165) 1 kX5_beginsExpression_c8.2.2.2.2.1 rfl ?_
  refine kz_goto (M := kt_M165) kX5_beginsExpression_c8.2.2.2.2.2.1 (t := 154) rfl ?_
  exact kz_weak [(0, .ref (w_adr E.2.1 4 0))] ⟨rfl, trivial⟩ rfl (zt_X5_beginsExpression_p154 hL  h)
def zb_X5_beginsExpression_p48 (E : zE) (L : Nat) (Q : kx_Rs → wS → Prop) (w : wS) : Prop := Q (.inl (some (.int 1))) w
theorem zt_X5_beginsExpression_p48 {E : zE} {L : Nat} {Q : kx_Rs → wS → Prop} {w : wS} (hL : 21 ≤ L) (h : zb_X5_beginsExpression_p48 E L Q  w) : kzE E L kt_M165 48 [(0, .ref (w_adr E.2.1 4 0))] [] w Q := by
  unfold zb_X5_beginsExpression_p48 at h
  refine kz_ic (M := kt_M165) 1 kX5_beginsExpression_c2.2.2.2.2.2.2.1 rfl ?_
  exact kz_iretz (M := kt_M165) kX5_beginsExpression_c2.2.2.2.2.2.2.2.1 rfl (by decide) h
def zb_X5_beginsExpression_p0 (E : zE) (L : Nat) (Q : kx_Rs → wS → Prop) (w : wS) : Prop := (kx_inb (w_i w 4 0 3) (w_n w 1 0 2) = true ∧ (if w_r w 1 0 2 (w_i w 4 0 3).toNatClampNeg = some (E.1.1 1) then zb_X5_beginsExpression_p48 E L Q w else (if w_r w 1 0 2 (w_i w 4 0 3).toNatClampNeg = some (E.1.1 2) then zb_X5_beginsExpression_p48 E L Q w else (if w_r w 1 0 2 (w_i w 4 0 3).toNatClampNeg = some (E.1.1 4) then zb_X5_beginsExpression_p48 E L Q w else (if w_r w 1 0 2 (w_i w 4 0 3).toNatClampNeg = some (E.1.1 3) then zb_X5_beginsExpression_p48 E L Q w else zw E (L - 20) kt_M186 [.ref (w_adr E.2.1 4 0)] w (wk1 (fun v2 w1 => wle w w1 → (if v2 = 0 then zw E (L - 21) kt_M183 [.ref (w_adr E.2.1 4 0), .int 54] w1 (wk1 (fun v4 w3 => wle w1 w3 → (if ¬ v4 = 0 then zb_X5_beginsExpression_p149 E L Q w3 else zw E (L - 21) kt_M183 [.ref (w_adr E.2.1 4 0), .int 63] w3 (wk1 (fun v6 w5 => wle w3 w5 → (if ¬ v6 = 0 then zb_X5_beginsExpression_p149 E L Q w5 else zw E (L - 21) kt_M183 [.ref (w_adr E.2.1 4 0), .int 17] w5 (wk1 (fun v8 w7 => wle w5 w7 → (if ¬ v8 = 0 then zb_X5_beginsExpression_p149 E L Q w7 else zw E (L - 21) kt_M183 [.ref (w_adr E.2.1 4 0), .int 14] w7 (wk1 (fun v10 w9 => wle w7 w9 → (if ¬ v10 = 0 then zb_X5_beginsExpression_p149 E L Q w9 else zw E (L - 21) kt_M183 [.ref (w_adr E.2.1 4 0), .int 27] w9 (wk1 (fun v12 w11 => wle w9 w11 → (if ¬ v12 = 0 then zb_X5_beginsExpression_p149 E L Q w11 else zw E (L - 21) kt_M183 [.ref (w_adr E.2.1 4 0), .int 32] w11 (wk1 (fun v14 w13 => wle w11 w13 → (if ¬ v14 = 0 then zb_X5_beginsExpression_p149 E L Q w13 else zw E (L - 21) kt_M183 [.ref (w_adr E.2.1 4 0), .int 8] w13 (wk1 (fun v16 w15 => wle w13 w15 → (if ¬ v16 = 0 then zb_X5_beginsExpression_p149 E L Q w15 else zw E (L - 21) kt_M183 [.ref (w_adr E.2.1 4 0), .int 16] w15 (wk1 (fun v18 w17 => wle w15 w17 → (if ¬ v18 = 0 then zb_X5_beginsExpression_p149 E L Q w17 else zw E (L - 21) kt_M183 [.ref (w_adr E.2.1 4 0), .int 15] w17 (wk1 (fun v20 w19 => wle w17 w19 → (if ¬ v20 = 0 then zb_X5_beginsExpression_p149 E L Q w19 else zw E (L - 21) kt_M183 [.ref (w_adr E.2.1 4 0), .int 36] w19 (wk1 (fun v22 w21 => wle w19 w21 → (if ¬ v22 = 0 then zb_X5_beginsExpression_p149 E L Q w21 else zw E (L - 21) kt_M183 [.ref (w_adr E.2.1 4 0), .int 38] w21 (wk1 (fun v24 w23 => wle w21 w23 → (if v24 = 0 then zb_X5_beginsExpression_p154 E L Q 0 w23 else zb_X5_beginsExpression_p149 E L Q w23)) (fun e w => Q (.inr e) w)))) (fun e w => Q (.inr e) w)))) (fun e w => Q (.inr e) w)))) (fun e w => Q (.inr e) w)))) (fun e w => Q (.inr e) w)))) (fun e w => Q (.inr e) w)))) (fun e w => Q (.inr e) w)))) (fun e w => Q (.inr e) w)))) (fun e w => Q (.inr e) w)))) (fun e w => Q (.inr e) w)))) (fun e w => Q (.inr e) w)) else zb_X5_beginsExpression_p48 E L Q w1)) (fun e w => Q (.inr e) w)))))))
theorem zt_X5_beginsExpression_p0 {E : zE} {L : Nat} {Q : kx_Rs → wS → Prop} {w : wS} (hL : 21 ≤ L) (h : zb_X5_beginsExpression_p0 E L Q  w) : kzE E L kt_M165 0 [(0, .ref (w_adr E.2.1 4 0))] [] w Q := by
  unfold zb_X5_beginsExpression_p0 at h
  refine kz_aload_n (M := kt_M165) kX5_beginsExpression_c0.1 rfl ?_
  refine kz_gfc (M := kt_M165) (x := 4) (c := 4) (o := 0) kX5_beginsExpression_c0.2.1 wf_X5_9 (.inl rfl) ?_
  refine kz_gfc (M := kt_M165) (x := 1258) (c := 1) (o := 0) kX5_beginsExpression_c0.2.2.1 wf_X5_48 (.inl rfl) ?_
  refine kz_aload_n (M := kt_M165) kX5_beginsExpression_c0.2.2.2.1 rfl ?_
  refine kz_gfi (M := kt_M165) (c := 4) (o := 0) kX5_beginsExpression_c0.2.2.2.2.1 wf_X5_29 (.inl rfl) ?_
  refine kz_aald (M := kt_M165) (τ := 0) (c := 1) (o := 0) (k := 2) (a := (E.2.1 1258)) kX5_beginsExpression_c0.2.2.2.2.2.1 ow_1_0_2 oa_1_0_2 ot_4 rfl h (fun h => ?_)
  refine kz_stv_n (M := kt_M165) (x := w_r w 1 0 2 (w_i w 4 0 3).toNatClampNeg) [(0, .ref (w_adr E.2.1 4 0))] kX5_beginsExpression_c0.2.2.2.2.2.2.1 (Nat.le_of_ble_eq_true rfl) ⟨⟨rfl, rfl, .inr rfl⟩, trivial⟩ rfl ?_
  refine kz_aload_nv (M := kt_M165) (x := w_r w 1 0 2 (w_i w 4 0 3).toNatClampNeg) kX5_beginsExpression_c0.2.2.2.2.2.2.2.1 rfl ?_
  refine kz_getsE (M := kt_M165) (v := va_rf (some (E.1.1 1))) kX5_beginsExpression_c1.1 zs_X5_76 ?_
  refine kz_acmp_eq (M := kt_M165) (x := w_r w 1 0 2 (w_i w 4 0 3).toNatClampNeg) (y := some (E.1.1 1)) kX5_beginsExpression_c1.2.1 (t := 48) rfl h (fun h => ?_) (fun h => ?_)
  · skip
    exact kz_weak [(0, .ref (w_adr E.2.1 4 0))] ⟨rfl, trivial⟩ rfl (zt_X5_beginsExpression_p48 hL  h)
  · skip
    refine kz_aload_nv (M := kt_M165) (x := w_r w 1 0 2 (w_i w 4 0 3).toNatClampNeg) kX5_beginsExpression_c1.2.2.1 rfl ?_
    refine kz_getsE (M := kt_M165) (v := va_rf (some (E.1.1 2))) kX5_beginsExpression_c1.2.2.2.1 zs_X5_116 ?_
    refine kz_acmp_eq (M := kt_M165) (x := w_r w 1 0 2 (w_i w 4 0 3).toNatClampNeg) (y := some (E.1.1 2)) kX5_beginsExpression_c1.2.2.2.2.1 (t := 48) rfl h (fun h => ?_) (fun h => ?_)
    · skip
      exact kz_weak [(0, .ref (w_adr E.2.1 4 0))] ⟨rfl, trivial⟩ rfl (zt_X5_beginsExpression_p48 hL  h)
    · skip
      refine kz_aload_nv (M := kt_M165) (x := w_r w 1 0 2 (w_i w 4 0 3).toNatClampNeg) kX5_beginsExpression_c1.2.2.2.2.2.1 rfl ?_
      refine kz_getsE (M := kt_M165) (v := va_rf (some (E.1.1 4))) kX5_beginsExpression_c1.2.2.2.2.2.2.1 zs_X5_119 ?_
      refine kz_acmp_eq (M := kt_M165) (x := w_r w 1 0 2 (w_i w 4 0 3).toNatClampNeg) (y := some (E.1.1 4)) kX5_beginsExpression_c1.2.2.2.2.2.2.2.1 (t := 48) rfl h (fun h => ?_) (fun h => ?_)
      · skip
        exact kz_weak [(0, .ref (w_adr E.2.1 4 0))] ⟨rfl, trivial⟩ rfl (zt_X5_beginsExpression_p48 hL  h)
      · skip
        refine kz_aload_nv (M := kt_M165) (x := w_r w 1 0 2 (w_i w 4 0 3).toNatClampNeg) kX5_beginsExpression_c2.1 rfl ?_
        refine kz_getsE (M := kt_M165) (v := va_rf (some (E.1.1 3))) kX5_beginsExpression_c2.2.1 zs_X5_122 ?_
        refine kz_acmp_eq (M := kt_M165) (x := w_r w 1 0 2 (w_i w 4 0 3).toNatClampNeg) (y := some (E.1.1 3)) kX5_beginsExpression_c2.2.2.1 (t := 48) rfl h (fun h => ?_) (fun h => ?_)
        · skip
          exact kz_weak [(0, .ref (w_adr E.2.1 4 0))] ⟨rfl, trivial⟩ rfl (zt_X5_beginsExpression_p48 hL  h)
        · skip
          refine kz_aload_n (M := kt_M165) kX5_beginsExpression_c2.2.2.2.1 rfl ?_
          refine kz_cv1 (M := kt_M165) (c := 4) (o := 0) (As := []) (rest := []) kX5_beginsExpression_c2.2.2.2.2.1 wl_X5_95 wMv_186 rfl (.inl rfl) rfl (Nat.le_trans (Nat.le_of_ble_eq_true rfl) hL) (Nat.le_of_ble_eq_true rfl) (Nat.le_of_ble_eq_true rfl) h (fun v2 w1 hle h => ?_) (fun _ _ _ h => kzx_no rfl h)
          have h := h hle
          refine kz_if_eq (M := kt_M165) kX5_beginsExpression_c2.2.2.2.2.2.1 (t := 50) rfl h (fun h => ?_) (fun h => ?_)
          · skip
            refine kz_aload_n (M := kt_M165) kX5_beginsExpression_c3.1 rfl ?_
            refine kz_bi (M := kt_M165) 54 kX5_beginsExpression_c3.2.1 rfl ?_
            refine kz_cv1 (M := kt_M165) (c := 4) (o := 0) (As := [.int 54]) (rest := []) kX5_beginsExpression_c3.2.2.1 wl_X5_79 wMv_183 rfl (.inl rfl) rfl (Nat.le_trans (Nat.le_of_ble_eq_true rfl) hL) (Nat.le_of_ble_eq_true rfl) (Nat.le_of_ble_eq_true rfl) h (fun v4 w3 hle h => ?_) (fun _ _ _ h => kzx_no rfl h)
            have h := h hle
            refine kz_if_ne (M := kt_M165) kX5_beginsExpression_c3.2.2.2.1 (t := 149) rfl h (fun h => ?_) (fun h => ?_)
            · skip
              exact kz_weak [(0, .ref (w_adr E.2.1 4 0))] ⟨rfl, trivial⟩ rfl (zt_X5_beginsExpression_p149 hL  h)
            · skip
              refine kz_aload_n (M := kt_M165) kX5_beginsExpression_c3.2.2.2.2.1 rfl ?_
              refine kz_bi (M := kt_M165) 63 kX5_beginsExpression_c3.2.2.2.2.2.1 rfl ?_
              refine kz_cv1 (M := kt_M165) (c := 4) (o := 0) (As := [.int 63]) (rest := []) kX5_beginsExpression_c3.2.2.2.2.2.2.1 wl_X5_79 wMv_183 rfl (.inl rfl) rfl (Nat.le_trans (Nat.le_of_ble_eq_true rfl) hL) (Nat.le_of_ble_eq_true rfl) (Nat.le_of_ble_eq_true rfl) h (fun v6 w5 hle h => ?_) (fun _ _ _ h => kzx_no rfl h)
              have h := h hle
              refine kz_if_ne (M := kt_M165) kX5_beginsExpression_c3.2.2.2.2.2.2.2.1 (t := 149) rfl h (fun h => ?_) (fun h => ?_)
              · skip
                exact kz_weak [(0, .ref (w_adr E.2.1 4 0))] ⟨rfl, trivial⟩ rfl (zt_X5_beginsExpression_p149 hL  h)
              · skip
                refine kz_aload_n (M := kt_M165) kX5_beginsExpression_c4.1 rfl ?_
                refine kz_bi (M := kt_M165) 17 kX5_beginsExpression_c4.2.1 rfl ?_
                refine kz_cv1 (M := kt_M165) (c := 4) (o := 0) (As := [.int 17]) (rest := []) kX5_beginsExpression_c4.2.2.1 wl_X5_79 wMv_183 rfl (.inl rfl) rfl (Nat.le_trans (Nat.le_of_ble_eq_true rfl) hL) (Nat.le_of_ble_eq_true rfl) (Nat.le_of_ble_eq_true rfl) h (fun v8 w7 hle h => ?_) (fun _ _ _ h => kzx_no rfl h)
                have h := h hle
                refine kz_if_ne (M := kt_M165) kX5_beginsExpression_c4.2.2.2.1 (t := 149) rfl h (fun h => ?_) (fun h => ?_)
                · skip
                  exact kz_weak [(0, .ref (w_adr E.2.1 4 0))] ⟨rfl, trivial⟩ rfl (zt_X5_beginsExpression_p149 hL  h)
                · skip
                  refine kz_aload_n (M := kt_M165) kX5_beginsExpression_c4.2.2.2.2.1 rfl ?_
                  refine kz_bi (M := kt_M165) 14 kX5_beginsExpression_c4.2.2.2.2.2.1 rfl ?_
                  refine kz_cv1 (M := kt_M165) (c := 4) (o := 0) (As := [.int 14]) (rest := []) kX5_beginsExpression_c4.2.2.2.2.2.2.1 wl_X5_79 wMv_183 rfl (.inl rfl) rfl (Nat.le_trans (Nat.le_of_ble_eq_true rfl) hL) (Nat.le_of_ble_eq_true rfl) (Nat.le_of_ble_eq_true rfl) h (fun v10 w9 hle h => ?_) (fun _ _ _ h => kzx_no rfl h)
                  have h := h hle
                  refine kz_if_ne (M := kt_M165) kX5_beginsExpression_c4.2.2.2.2.2.2.2.1 (t := 149) rfl h (fun h => ?_) (fun h => ?_)
                  · skip
                    exact kz_weak [(0, .ref (w_adr E.2.1 4 0))] ⟨rfl, trivial⟩ rfl (zt_X5_beginsExpression_p149 hL  h)
                  · skip
                    refine kz_aload_n (M := kt_M165) kX5_beginsExpression_c5.1 rfl ?_
                    refine kz_bi (M := kt_M165) 27 kX5_beginsExpression_c5.2.1 rfl ?_
                    refine kz_cv1 (M := kt_M165) (c := 4) (o := 0) (As := [.int 27]) (rest := []) kX5_beginsExpression_c5.2.2.1 wl_X5_79 wMv_183 rfl (.inl rfl) rfl (Nat.le_trans (Nat.le_of_ble_eq_true rfl) hL) (Nat.le_of_ble_eq_true rfl) (Nat.le_of_ble_eq_true rfl) h (fun v12 w11 hle h => ?_) (fun _ _ _ h => kzx_no rfl h)
                    have h := h hle
                    refine kz_if_ne (M := kt_M165) kX5_beginsExpression_c5.2.2.2.1 (t := 149) rfl h (fun h => ?_) (fun h => ?_)
                    · skip
                      exact kz_weak [(0, .ref (w_adr E.2.1 4 0))] ⟨rfl, trivial⟩ rfl (zt_X5_beginsExpression_p149 hL  h)
                    · skip
                      refine kz_aload_n (M := kt_M165) kX5_beginsExpression_c5.2.2.2.2.1 rfl ?_
                      refine kz_bi (M := kt_M165) 32 kX5_beginsExpression_c5.2.2.2.2.2.1 rfl ?_
                      refine kz_cv1 (M := kt_M165) (c := 4) (o := 0) (As := [.int 32]) (rest := []) kX5_beginsExpression_c5.2.2.2.2.2.2.1 wl_X5_79 wMv_183 rfl (.inl rfl) rfl (Nat.le_trans (Nat.le_of_ble_eq_true rfl) hL) (Nat.le_of_ble_eq_true rfl) (Nat.le_of_ble_eq_true rfl) h (fun v14 w13 hle h => ?_) (fun _ _ _ h => kzx_no rfl h)
                      have h := h hle
                      refine kz_if_ne (M := kt_M165) kX5_beginsExpression_c5.2.2.2.2.2.2.2.1 (t := 149) rfl h (fun h => ?_) (fun h => ?_)
                      · skip
                        exact kz_weak [(0, .ref (w_adr E.2.1 4 0))] ⟨rfl, trivial⟩ rfl (zt_X5_beginsExpression_p149 hL  h)
                      · skip
                        refine kz_aload_n (M := kt_M165) kX5_beginsExpression_c6.1 rfl ?_
                        refine kz_bi (M := kt_M165) 8 kX5_beginsExpression_c6.2.1 rfl ?_
                        refine kz_cv1 (M := kt_M165) (c := 4) (o := 0) (As := [.int 8]) (rest := []) kX5_beginsExpression_c6.2.2.1 wl_X5_79 wMv_183 rfl (.inl rfl) rfl (Nat.le_trans (Nat.le_of_ble_eq_true rfl) hL) (Nat.le_of_ble_eq_true rfl) (Nat.le_of_ble_eq_true rfl) h (fun v16 w15 hle h => ?_) (fun _ _ _ h => kzx_no rfl h)
                        have h := h hle
                        refine kz_if_ne (M := kt_M165) kX5_beginsExpression_c6.2.2.2.1 (t := 149) rfl h (fun h => ?_) (fun h => ?_)
                        · skip
                          exact kz_weak [(0, .ref (w_adr E.2.1 4 0))] ⟨rfl, trivial⟩ rfl (zt_X5_beginsExpression_p149 hL  h)
                        · skip
                          refine kz_aload_n (M := kt_M165) kX5_beginsExpression_c6.2.2.2.2.1 rfl ?_
                          refine kz_bi (M := kt_M165) 16 kX5_beginsExpression_c6.2.2.2.2.2.1 rfl ?_
                          refine kz_cv1 (M := kt_M165) (c := 4) (o := 0) (As := [.int 16]) (rest := []) kX5_beginsExpression_c6.2.2.2.2.2.2.1 wl_X5_79 wMv_183 rfl (.inl rfl) rfl (Nat.le_trans (Nat.le_of_ble_eq_true rfl) hL) (Nat.le_of_ble_eq_true rfl) (Nat.le_of_ble_eq_true rfl) h (fun v18 w17 hle h => ?_) (fun _ _ _ h => kzx_no rfl h)
                          have h := h hle
                          refine kz_if_ne (M := kt_M165) kX5_beginsExpression_c6.2.2.2.2.2.2.2.1 (t := 149) rfl h (fun h => ?_) (fun h => ?_)
                          · skip
                            exact kz_weak [(0, .ref (w_adr E.2.1 4 0))] ⟨rfl, trivial⟩ rfl (zt_X5_beginsExpression_p149 hL  h)
                          · skip
                            refine kz_aload_n (M := kt_M165) kX5_beginsExpression_c7.1 rfl ?_
                            refine kz_bi (M := kt_M165) 15 kX5_beginsExpression_c7.2.1 rfl ?_
                            refine kz_cv1 (M := kt_M165) (c := 4) (o := 0) (As := [.int 15]) (rest := []) kX5_beginsExpression_c7.2.2.1 wl_X5_79 wMv_183 rfl (.inl rfl) rfl (Nat.le_trans (Nat.le_of_ble_eq_true rfl) hL) (Nat.le_of_ble_eq_true rfl) (Nat.le_of_ble_eq_true rfl) h (fun v20 w19 hle h => ?_) (fun _ _ _ h => kzx_no rfl h)
                            have h := h hle
                            refine kz_if_ne (M := kt_M165) kX5_beginsExpression_c7.2.2.2.1 (t := 149) rfl h (fun h => ?_) (fun h => ?_)
                            · skip
                              exact kz_weak [(0, .ref (w_adr E.2.1 4 0))] ⟨rfl, trivial⟩ rfl (zt_X5_beginsExpression_p149 hL  h)
                            · skip
                              refine kz_aload_n (M := kt_M165) kX5_beginsExpression_c7.2.2.2.2.1 rfl ?_
                              refine kz_bi (M := kt_M165) 36 kX5_beginsExpression_c7.2.2.2.2.2.1 rfl ?_
                              refine kz_cv1 (M := kt_M165) (c := 4) (o := 0) (As := [.int 36]) (rest := []) kX5_beginsExpression_c7.2.2.2.2.2.2.1 wl_X5_79 wMv_183 rfl (.inl rfl) rfl (Nat.le_trans (Nat.le_of_ble_eq_true rfl) hL) (Nat.le_of_ble_eq_true rfl) (Nat.le_of_ble_eq_true rfl) h (fun v22 w21 hle h => ?_) (fun _ _ _ h => kzx_no rfl h)
                              have h := h hle
                              refine kz_if_ne (M := kt_M165) kX5_beginsExpression_c7.2.2.2.2.2.2.2.1 (t := 149) rfl h (fun h => ?_) (fun h => ?_)
                              · skip
                                exact kz_weak [(0, .ref (w_adr E.2.1 4 0))] ⟨rfl, trivial⟩ rfl (zt_X5_beginsExpression_p149 hL  h)
                              · skip
                                refine kz_aload_n (M := kt_M165) kX5_beginsExpression_c8.1 rfl ?_
                                refine kz_bi (M := kt_M165) 38 kX5_beginsExpression_c8.2.1 rfl ?_
                                refine kz_cv1 (M := kt_M165) (c := 4) (o := 0) (As := [.int 38]) (rest := []) kX5_beginsExpression_c8.2.2.1 wl_X5_79 wMv_183 rfl (.inl rfl) rfl (Nat.le_trans (Nat.le_of_ble_eq_true rfl) hL) (Nat.le_of_ble_eq_true rfl) (Nat.le_of_ble_eq_true rfl) h (fun v24 w23 hle h => ?_) (fun _ _ _ h => kzx_no rfl h)
                                have h := h hle
                                refine kz_if_eq (M := kt_M165) kX5_beginsExpression_c8.2.2.2.1 (t := 153) rfl h (fun h => ?_) (fun h => ?_)
                                · skip
                                  refine kz_ic (M := kt_M165) 0 kX5_beginsExpression_c8.2.2.2.2.2.2.1 rfl ?_
                                  exact kz_weak [(0, .ref (w_adr E.2.1 4 0))] ⟨rfl, trivial⟩ rfl (zt_X5_beginsExpression_p154 hL  h)
                                · skip
                                  exact kz_weak [(0, .ref (w_adr E.2.1 4 0))] ⟨rfl, trivial⟩ rfl (zt_X5_beginsExpression_p149 hL  h)
          · skip
            exact kz_weak [(0, .ref (w_adr E.2.1 4 0))] ⟨rfl, trivial⟩ rfl (zt_X5_beginsExpression_p48 hL  h)
def zL_X5_options_p4 (E : zE) (L : Nat) (Q : kx_Rs → wS → Prop) (x1 : Int32) (x2 : Option Nat) (x3 : Option Nat) (w : wS) : Prop := kzE E L kt_M199 4 [(0, .ref (w_adr E.2.1 4 0)), (1, .int x1), (2, va_rf (x2)), (3, va_rf (x3))] [] w Q
def zb_X5_options_p103 (E : zE) (L : Nat) (Q : kx_Rs → wS → Prop) (x1 : Int32) (x2 : Option Nat) (x3 : Option Nat) (w : wS) : Prop := zw E (L - 20) kt_M174 [.ref (w_adr E.2.1 4 0)] w (wk0 (fun w1 => wle w w1 → zw E (L - 23) kt_M202 [.ref (w_adr E.2.1 4 0), .int (x1 + 2)] w1 (wkr (fun v4 w3 => wle w1 w3 → (∃ p5, x3 = some p5 ∧ w_l w3 E.2.1 14 p5 ∧ zL_X5_options_p4 E L Q x1 x2 x3 (ws_p w3 14 p5 4 v4))) (fun e w => Q (.inr e) w))) (fun e w => Q (.inr e) w))
theorem zt_X5_options_p103 {E : zE} {L : Nat} {Q : kx_Rs → wS → Prop} {x1 : Int32} {x2 : Option Nat} {x3 : Option Nat} {w : wS} (hL : 23 ≤ L) (h : zb_X5_options_p103 E L Q x1 x2 x3 w) : kzE E L kt_M199 103 [(0, .ref (w_adr E.2.1 4 0)), (1, .int x1), (2, va_rf (x2)), (3, va_rf (x3))] [] w Q := by
  unfold zb_X5_options_p103 at h
  refine kz_aload_n (M := kt_M199) kX5_options_c6.2.2.2.2.2.2.2.1 rfl ?_
  refine kz_cv0 (M := kt_M199) (c := 4) (o := 0) (As := []) (rest := []) kX5_options_c7.1 wl_X5_229 wMv_174 rfl (.inl rfl) rfl (Nat.le_trans (Nat.le_of_ble_eq_true rfl) hL) (Nat.le_of_ble_eq_true rfl) (Nat.le_of_ble_eq_true rfl) h (fun w1 hle h => ?_) (fun _ _ _ h => kzx_no rfl h)
  have h := h hle
  refine kz_aload_nv (M := kt_M199) (x := x3) kX5_options_c7.2.1 rfl ?_
  refine kz_aload_n (M := kt_M199) kX5_options_c7.2.2.1 rfl ?_
  refine kz_iload_n (M := kt_M199) kX5_options_c7.2.2.2.1 rfl ?_
  refine kz_ic (M := kt_M199) 2 kX5_options_c7.2.2.2.2.1 rfl ?_
  refine kz_iadd (M := kt_M199) kX5_options_c7.2.2.2.2.2.1 ?_
  refine kz_cvr (M := kt_M199) (c := 4) (o := 0) (As := [.int (x1 + 2)]) (rest := [va_rf (x3)]) kX5_options_c7.2.2.2.2.2.2.1 wl_X5_133 wMv_202 rfl (.inl rfl) rfl (Nat.le_trans (Nat.le_of_ble_eq_true rfl) hL) (Nat.le_of_ble_eq_true rfl) (by simp [kx_cat, w_cat, z_ci, z_cr, z_cl, z_cn]) h (fun v4 w3 hle h => ?_) (fun _ _ _ h => kzx_no rfl h)
  have h := h hle
  obtain ⟨p5, hxp5, hlp5, h⟩ := h
  refine kz_nz1 (x := x3) hxp5 ?_
  refine kz_pfp (M := kt_M199) (n := v4) (c := 14) (o := p5) kX5_options_c7.2.2.2.2.2.2.2.1 wq_X5_168 (.inr (by exact hlp5)) ?_
  refine kz_goto (M := kt_M199) kX5_options_c8.1 (t := 4) rfl ?_
  exact kz_weak [(0, .ref (w_adr E.2.1 4 0)), (1, .int x1), (2, va_rf (x2)), (3, va_rf (x3))] ⟨rfl, ⟨rfl, ⟨rfl, ⟨rfl, trivial⟩⟩⟩⟩ rfl h
def zb_X5_options_p71 (E : zE) (L : Nat) (Q : kx_Rs → wS → Prop) (x1 : Int32) (x2 : Option Nat) (x3 : Option Nat) (w : wS) : Prop := zw E (L - 21) kt_M183 [.ref (w_adr E.2.1 4 0), .int 7] w (wk1 (fun v2 w1 => wle w w1 → (∃ p3, x3 = some p3 ∧ w_l w1 E.2.1 14 p3 ∧ ((v2 = 0 ∨ v2 = 1) ∧ (if v2 = 0 then zw E (L - 20) kt_M178 [.ref (w_adr E.2.1 4 0)] (ws_i w1 14 p3 11 v2) (wkr (fun v5 w4 => wle (ws_i w1 14 p3 11 v2) w4 → zb_X5_options_p103 E L Q x1 x2 x3 (ws_p w4 14 p3 3 v5)) (fun e w => Q (.inr e) w)) else zw E (L - 20) kt_M195 [.ref (w_adr E.2.1 4 0)] (ws_i w1 14 p3 11 v2) (wk0 (fun w6 => wle (ws_i w1 14 p3 11 v2) w6 → zb_X5_options_p103 E L Q x1 x2 x3 w6) (fun e w => Q (.inr e) w)))))) (fun e w => Q (.inr e) w))
theorem zt_X5_options_p71 {E : zE} {L : Nat} {Q : kx_Rs → wS → Prop} {x1 : Int32} {x2 : Option Nat} {x3 : Option Nat} {w : wS} (hL : 23 ≤ L) (h : zb_X5_options_p71 E L Q x1 x2 x3 w) : kzE E L kt_M199 71 [(0, .ref (w_adr E.2.1 4 0)), (1, .int x1), (2, va_rf (x2)), (3, va_rf (x3))] [] w Q := by
  unfold zb_X5_options_p71 at h
  refine kz_aload_nv (M := kt_M199) (x := x3) kX5_options_c5.1 rfl ?_
  refine kz_aload_n (M := kt_M199) kX5_options_c5.2.1 rfl ?_
  refine kz_bi (M := kt_M199) 7 kX5_options_c5.2.2.1 rfl ?_
  refine kz_cv1 (M := kt_M199) (c := 4) (o := 0) (As := [.int 7]) (rest := [va_rf (x3)]) kX5_options_c5.2.2.2.1 wl_X5_79 wMv_183 rfl (.inl rfl) rfl (Nat.le_trans (Nat.le_of_ble_eq_true rfl) hL) (Nat.le_of_ble_eq_true rfl) (by simp [kx_cat, w_cat, z_ci, z_cr, z_cl, z_cn]) h (fun v2 w1 hle h => ?_) (fun _ _ _ h => kzx_no rfl h)
  have h := h hle
  obtain ⟨p3, hxp3, hlp3, h⟩ := h
  refine kz_nz1 (x := x3) hxp3 ?_
  obtain ⟨h0, h⟩ := h
  refine kz_pfz (M := kt_M199) (c := 14) (o := p3) kX5_options_c5.2.2.2.2.1 wq_X5_285 (.inr (by exact hlp3)) h0 ?_
  refine kz_aload_nv (M := kt_M199) (x := x3) kX5_options_c5.2.2.2.2.2.1 rfl ?_
  refine kz_nz0 (x := x3) hxp3 ?_
  refine kz_gfiR (M := kt_M199) (c := 14) (o := p3) v2 kX5_options_c5.2.2.2.2.2.2.1 wf_X5_285 (.inr (by exact hlp3)) rd_i_e ?_
  refine kz_if_eq (M := kt_M199) kX5_options_c5.2.2.2.2.2.2.2.1 (t := 95) rfl h (fun h => ?_) (fun h => ?_)
  · skip
    refine kz_aload_nv (M := kt_M199) (x := x3) kX5_options_c6.2.2.2.1 rfl ?_
    refine kz_aload_n (M := kt_M199) kX5_options_c6.2.2.2.2.1 rfl ?_
    refine kz_cvr (M := kt_M199) (c := 4) (o := 0) (As := []) (rest := [va_rf (x3)]) kX5_options_c6.2.2.2.2.2.1 wl_X5_352 wMv_178 rfl (.inl rfl) rfl (Nat.le_trans (Nat.le_of_ble_eq_true rfl) hL) (Nat.le_of_ble_eq_true rfl) (by simp [kx_cat, w_cat, z_ci, z_cr, z_cl, z_cn]) h (fun v5 w4 hle h => ?_) (fun _ _ _ h => kzx_no rfl h)
    have h := h hle
    have hlp3 := w_l_le hlp3 hle
    refine kz_nz1 (x := x3) hxp3 ?_
    refine kz_pfp (M := kt_M199) (n := v5) (c := 14) (o := p3) kX5_options_c6.2.2.2.2.2.2.1 wq_X5_162 (.inr (by exact hlp3)) ?_
    exact kz_weak [(0, .ref (w_adr E.2.1 4 0)), (1, .int x1), (2, va_rf (x2)), (3, va_rf (x3))] ⟨rfl, ⟨rfl, ⟨rfl, ⟨rfl, trivial⟩⟩⟩⟩ rfl (zt_X5_options_p103 hL  h)
  · skip
    refine kz_aload_n (M := kt_M199) kX5_options_c6.1 rfl ?_
    refine kz_cv0 (M := kt_M199) (c := 4) (o := 0) (As := []) (rest := []) kX5_options_c6.2.1 wl_X5_85 wMv_195 rfl (.inl rfl) rfl (Nat.le_trans (Nat.le_of_ble_eq_true rfl) hL) (Nat.le_of_ble_eq_true rfl) (Nat.le_of_ble_eq_true rfl) h (fun w6 hle h => ?_) (fun _ _ _ h => kzx_no rfl h)
    have h := h hle
    have hlp3 := w_l_le hlp3 hle
    refine kz_goto (M := kt_M199) kX5_options_c6.2.2.1 (t := 103) rfl ?_
    exact kz_weak [(0, .ref (w_adr E.2.1 4 0)), (1, .int x1), (2, va_rf (x2)), (3, va_rf (x3))] ⟨rfl, ⟨rfl, ⟨rfl, ⟨rfl, trivial⟩⟩⟩⟩ rfl (zt_X5_options_p103 hL  h)
def zb_X5_options_p50 (E : zE) (L : Nat) (Q : kx_Rs → wS → Prop) (x1 : Int32) (x2 : Option Nat) (x3 : Option Nat) (y0 : Int32) (y1 : Int32) (w : wS) : Prop := zw E (L - 22) kt_M211 [.ref (w_adr E.2.1 4 0), .int y1, .int y0] w (wk0 (fun w1 => wle w w1 → zw E (L - 21) kt_M196 [.ref (w_adr E.2.1 4 0), va_rf (some (E.1.1 49))] w1 (wkr (fun v4 w3 => wle w1 w3 → zw E (L - 21) kt_M166 [va_rf (x3), va_rf (v4)] w3 (wkr (fun v6 w5 => wle w3 w5 → (if ¬ x2 = none then zb_X5_options_p71 E L Q x1 x2 v6 w5 else zb_X5_options_p71 E L Q x1 v6 v6 w5)) (fun e w => Q (.inr e) w))) (fun e w => Q (.inr e) w))) (fun e w => Q (.inr e) w))
theorem zt_X5_options_p50 {E : zE} {L : Nat} {Q : kx_Rs → wS → Prop} {x1 : Int32} {x2 : Option Nat} {x3 : Option Nat} {y0 : Int32} {y1 : Int32} {w : wS} (hL : 23 ≤ L) (h : zb_X5_options_p50 E L Q x1 x2 x3 y0 y1 w) : kzE E L kt_M199 50 [(0, .ref (w_adr E.2.1 4 0)), (1, .int x1), (2, va_rf (x2)), (3, va_rf (x3))] [.int y0, .int y1, .ref (w_adr E.2.1 4 0)] w Q := by
  unfold zb_X5_options_p50 at h
  refine kz_cv0 (M := kt_M199) (c := 4) (o := 0) (As := [.int y1, .int y0]) (rest := []) kX5_options_c3.2.2.2.2.2.1 wl_X5_143 wMv_211 rfl (.inl rfl) rfl (Nat.le_trans (Nat.le_of_ble_eq_true rfl) hL) (Nat.le_of_ble_eq_true rfl) (Nat.le_of_ble_eq_true rfl) h (fun w1 hle h => ?_) (fun _ _ _ h => kzx_no rfl h)
  have h := h hle
  refine kz_aload_nv (M := kt_M199) (x := x3) kX5_options_c3.2.2.2.2.2.2.1 rfl ?_
  refine kz_aload_n (M := kt_M199) kX5_options_c3.2.2.2.2.2.2.2.1 rfl ?_
  refine kz_getsE (M := kt_M199) (v := va_rf (some (E.1.1 49))) kX5_options_c4.1 zs_X5_349 ?_
  refine kz_cvr (M := kt_M199) (c := 4) (o := 0) (As := [va_rf (some (E.1.1 49))]) (rest := [va_rf (x3)]) kX5_options_c4.2.1 wl_X5_152 wMv_196 rfl (.inl rfl) rfl (Nat.le_trans (Nat.le_of_ble_eq_true rfl) hL) (by simp [lg_sl, w_cat, z_ci, z_cr, z_cl, z_cn, kt_M196]) (by simp [kx_cat, w_cat, z_ci, z_cr, z_cl, z_cn]) h (fun v4 w3 hle h => ?_) (fun _ _ _ h => kzx_no rfl h)
  have h := h hle
  refine kz_csr (M := kt_M199) (As := [va_rf (x3), va_rf (v4)]) (rest := []) kX5_options_c4.2.2.1 wl_X5_158 wMs_166 rfl (Nat.le_trans (Nat.le_of_ble_eq_true rfl) hL) (by simp [lg_sl, w_cat, z_ci, z_cr, z_cl, z_cn, kt_M166]) (Nat.le_of_ble_eq_true rfl) h (fun v6 w5 hle h => ?_) (fun _ _ _ h => kzx_no rfl h)
  have h := h hle
  refine kz_stv_n (M := kt_M199) (x := v6) [(0, .ref (w_adr E.2.1 4 0)), (1, .int x1), (2, va_rf (x2))] kX5_options_c4.2.2.2.1 (Nat.le_of_ble_eq_true rfl) ⟨⟨rfl, rfl, .inl rfl⟩, ⟨⟨rfl, rfl, .inl rfl⟩, ⟨⟨rfl, rfl, .inr (w_cat (x2))⟩, trivial⟩⟩⟩ rfl ?_
  refine kz_aload_nv (M := kt_M199) (x := x2) kX5_options_c4.2.2.2.2.1 rfl ?_
  refine kz_ifnonnull (M := kt_M199) (x := x2) kX5_options_c4.2.2.2.2.2.1 (t := 71) rfl h (fun h => ?_) (fun h => ?_)
  · skip
    exact kz_weak [(0, .ref (w_adr E.2.1 4 0)), (1, .int x1), (2, va_rf (x2)), (3, va_rf (v6))] ⟨rfl, ⟨rfl, ⟨rfl, ⟨rfl, trivial⟩⟩⟩⟩ rfl (zt_X5_options_p71 hL  h)
  · skip
    refine kz_aload_nv (M := kt_M199) (x := v6) kX5_options_c4.2.2.2.2.2.2.1 rfl ?_
    refine kz_stv_n (M := kt_M199) (x := v6) [(0, .ref (w_adr E.2.1 4 0)), (1, .int x1), (3, va_rf (v6))] kX5_options_c4.2.2.2.2.2.2.2.1 (Nat.le_of_ble_eq_true rfl) ⟨⟨rfl, rfl, .inl rfl⟩, ⟨⟨rfl, rfl, .inr rfl⟩, ⟨⟨rfl, rfl, .inl rfl⟩, trivial⟩⟩⟩ rfl ?_
    exact kz_weak [(0, .ref (w_adr E.2.1 4 0)), (1, .int x1), (2, va_rf (v6)), (3, va_rf (v6))] ⟨rfl, ⟨rfl, ⟨rfl, ⟨rfl, trivial⟩⟩⟩⟩ rfl (zt_X5_options_p71 hL  h)
def zb_X5_options_p49 (E : zE) (L : Nat) (Q : kx_Rs → wS → Prop) (x1 : Int32) (x2 : Option Nat) (x3 : Option Nat) (y0 : Int32) (w : wS) : Prop := zb_X5_options_p50 E L Q x1 x2 x3 0 y0 w
theorem zt_X5_options_p49 {E : zE} {L : Nat} {Q : kx_Rs → wS → Prop} {x1 : Int32} {x2 : Option Nat} {x3 : Option Nat} {y0 : Int32} {w : wS} (hL : 23 ≤ L) (h : zb_X5_options_p49 E L Q x1 x2 x3 y0 w) : kzE E L kt_M199 49 [(0, .ref (w_adr E.2.1 4 0)), (1, .int x1), (2, va_rf (x2)), (3, va_rf (x3))] [.int y0, .ref (w_adr E.2.1 4 0)] w Q := by
  unfold zb_X5_options_p49 at h
  refine kz_ic (M := kt_M199) 0 kX5_options_c3.2.2.2.2.1 rfl ?_
  exact kz_weak [(0, .ref (w_adr E.2.1 4 0)), (1, .int x1), (2, va_rf (x2)), (3, va_rf (x3))] ⟨rfl, ⟨rfl, ⟨rfl, ⟨rfl, trivial⟩⟩⟩⟩ rfl (zt_X5_options_p50 hL  h)
def zb_X5_options_p45 (E : zE) (L : Nat) (Q : kx_Rs → wS → Prop) (x1 : Int32) (x2 : Option Nat) (x3 : Option Nat) (y0 : Int32) (w : wS) : Prop := zb_X5_options_p50 E L Q x1 x2 x3 1 y0 w
theorem zt_X5_options_p45 {E : zE} {L : Nat} {Q : kx_Rs → wS → Prop} {x1 : Int32} {x2 : Option Nat} {x3 : Option Nat} {y0 : Int32} {w : wS} (hL : 23 ≤ L) (h : zb_X5_options_p45 E L Q x1 x2 x3 y0 w) : kzE E L kt_M199 45 [(0, .ref (w_adr E.2.1 4 0)), (1, .int x1), (2, va_rf (x2)), (3, va_rf (x3))] [.int y0, .ref (w_adr E.2.1 4 0)] w Q := by
  unfold zb_X5_options_p45 at h
  refine kz_ic (M := kt_M199) 1 kX5_options_c3.2.2.1 rfl ?_
  refine kz_goto (M := kt_M199) kX5_options_c3.2.2.2.1 (t := 50) rfl ?_
  exact kz_weak [(0, .ref (w_adr E.2.1 4 0)), (1, .int x1), (2, va_rf (x2)), (3, va_rf (x3))] ⟨rfl, ⟨rfl, ⟨rfl, ⟨rfl, trivial⟩⟩⟩⟩ rfl (zt_X5_options_p50 hL  h)
def zb_X5_options_p29 (E : zE) (L : Nat) (Q : kx_Rs → wS → Prop) (x1 : Int32) (x2 : Option Nat) (x3 : Option Nat) (y0 : Int32) (w : wS) : Prop := zw E (L - 21) kt_M165 [.ref (w_adr E.2.1 4 0)] w (wk1 (fun v2 w1 => wle w w1 → (if ¬ v2 = 0 then zb_X5_options_p45 E L Q x1 x2 x3 y0 w1 else zw E (L - 21) kt_M183 [.ref (w_adr E.2.1 4 0), .int 7] w1 (wk1 (fun v4 w3 => wle w1 w3 → (if v4 = 0 then zb_X5_options_p49 E L Q x1 x2 x3 y0 w3 else zb_X5_options_p45 E L Q x1 x2 x3 y0 w3)) (fun e w => Q (.inr e) w)))) (fun e w => Q (.inr e) w))
theorem zt_X5_options_p29 {E : zE} {L : Nat} {Q : kx_Rs → wS → Prop} {x1 : Int32} {x2 : Option Nat} {x3 : Option Nat} {y0 : Int32} {w : wS} (hL : 23 ≤ L) (h : zb_X5_options_p29 E L Q x1 x2 x3 y0 w) : kzE E L kt_M199 29 [(0, .ref (w_adr E.2.1 4 0)), (1, .int x1), (2, va_rf (x2)), (3, va_rf (x3))] [.int y0, .ref (w_adr E.2.1 4 0)] w Q := by
  unfold zb_X5_options_p29 at h
  refine kz_aload_n (M := kt_M199) kX5_options_c2.2.2.2.1 rfl ?_
  refine kz_cv1 (M := kt_M199) (c := 4) (o := 0) (As := []) (rest := [.int y0, .ref (w_adr E.2.1 4 0)]) kX5_options_c2.2.2.2.2.1 wl_X5_343 wMv_165 rfl (.inl rfl) rfl (Nat.le_trans (Nat.le_of_ble_eq_true rfl) hL) (Nat.le_of_ble_eq_true rfl) (Nat.le_of_ble_eq_true rfl) h (fun v2 w1 hle h => ?_) (fun _ _ _ h => kzx_no rfl h)
  have h := h hle
  refine kz_if_ne (M := kt_M199) kX5_options_c2.2.2.2.2.2.1 (t := 45) rfl h (fun h => ?_) (fun h => ?_)
  · skip
    exact kz_weak [(0, .ref (w_adr E.2.1 4 0)), (1, .int x1), (2, va_rf (x2)), (3, va_rf (x3))] ⟨rfl, ⟨rfl, ⟨rfl, ⟨rfl, trivial⟩⟩⟩⟩ rfl (zt_X5_options_p45 hL  h)
  · skip
    refine kz_aload_n (M := kt_M199) kX5_options_c2.2.2.2.2.2.2.1 rfl ?_
    refine kz_bi (M := kt_M199) 7 kX5_options_c2.2.2.2.2.2.2.2.1 rfl ?_
    refine kz_cv1 (M := kt_M199) (c := 4) (o := 0) (As := [.int 7]) (rest := [.int y0, .ref (w_adr E.2.1 4 0)]) kX5_options_c3.1 wl_X5_79 wMv_183 rfl (.inl rfl) rfl (Nat.le_trans (Nat.le_of_ble_eq_true rfl) hL) (Nat.le_of_ble_eq_true rfl) (Nat.le_of_ble_eq_true rfl) h (fun v4 w3 hle h => ?_) (fun _ _ _ h => kzx_no rfl h)
    have h := h hle
    refine kz_if_eq (M := kt_M199) kX5_options_c3.2.1 (t := 49) rfl h (fun h => ?_) (fun h => ?_)
    · skip
      exact kz_weak [(0, .ref (w_adr E.2.1 4 0)), (1, .int x1), (2, va_rf (x2)), (3, va_rf (x3))] ⟨rfl, ⟨rfl, ⟨rfl, ⟨rfl, trivial⟩⟩⟩⟩ rfl (zt_X5_options_p49 hL  h)
    · skip
      exact kz_weak [(0, .ref (w_adr E.2.1 4 0)), (1, .int x1), (2, va_rf (x2)), (3, va_rf (x3))] ⟨rfl, ⟨rfl, ⟨rfl, ⟨rfl, trivial⟩⟩⟩⟩ rfl (zt_X5_options_p45 hL  h)
def zb_X5_options_p4 (E : zE) (L : Nat) (Q : kx_Rs → wS → Prop) (x1 : Int32) (x2 : Option Nat) (x3 : Option Nat) (w : wS) : Prop := zw E (L - 21) kt_M192 [.ref (w_adr E.2.1 4 0), .int (x1 + 1)] w (wk1 (fun v2 w1 => wle w w1 → (if v2 = 0 then Q (.inl (some (va_rf (x2)))) w1 else (if x3 = none then zb_X5_options_p29 E L Q x1 x2 x3 (x1 + 1) w1 else (∃ p3, x3 = some p3 ∧ w_l w1 E.2.1 14 p3 ∧ (if ¬ w_i w1 14 p3 11 = 0 then zb_X5_options_p49 E L Q x1 x2 x3 (x1 + 1) w1 else zb_X5_options_p29 E L Q x1 x2 x3 (x1 + 1) w1))))) (fun e w => Q (.inr e) w))
theorem zt_X5_options_p4 {E : zE} {L : Nat} {Q : kx_Rs → wS → Prop} {x1 : Int32} {x2 : Option Nat} {x3 : Option Nat} {w : wS} (hL : 23 ≤ L) (h : zb_X5_options_p4 E L Q x1 x2 x3 w) : kzE E L kt_M199 4 [(0, .ref (w_adr E.2.1 4 0)), (1, .int x1), (2, va_rf (x2)), (3, va_rf (x3))] [] w Q := by
  unfold zb_X5_options_p4 at h
  refine kz_aload_n (M := kt_M199) kX5_options_c0.2.2.2.2.1 rfl ?_
  refine kz_iload_n (M := kt_M199) kX5_options_c0.2.2.2.2.2.1 rfl ?_
  refine kz_ic (M := kt_M199) 1 kX5_options_c0.2.2.2.2.2.2.1 rfl ?_
  refine kz_iadd (M := kt_M199) kX5_options_c0.2.2.2.2.2.2.2.1 ?_
  refine kz_cv1 (M := kt_M199) (c := 4) (o := 0) (As := [.int (x1 + 1)]) (rest := []) kX5_options_c1.1 wl_X5_110 wMv_192 rfl (.inl rfl) rfl (Nat.le_trans (Nat.le_of_ble_eq_true rfl) hL) (Nat.le_of_ble_eq_true rfl) (Nat.le_of_ble_eq_true rfl) h (fun v2 w1 hle h => ?_) (fun _ _ _ h => kzx_no rfl h)
  have h := h hle
  refine kz_if_eq (M := kt_M199) kX5_options_c1.2.1 (t := 121) rfl h (fun h => ?_) (fun h => ?_)
  · skip
    refine kz_aload_nv (M := kt_M199) (x := x2) kX5_options_c8.2.1 rfl ?_
    exact kz_areto (x := x2) (M := kt_M199) kX5_options_c8.2.2.1 rfl h
  · skip
    refine kz_aload_n (M := kt_M199) kX5_options_c1.2.2.1 rfl ?_
    refine kz_iload_n (M := kt_M199) kX5_options_c1.2.2.2.1 rfl ?_
    refine kz_ic (M := kt_M199) 1 kX5_options_c1.2.2.2.2.1 rfl ?_
    refine kz_iadd (M := kt_M199) kX5_options_c1.2.2.2.2.2.1 ?_
    refine kz_aload_nv (M := kt_M199) (x := x3) kX5_options_c1.2.2.2.2.2.2.1 rfl ?_
    refine kz_ifnull (M := kt_M199) (x := x3) kX5_options_c1.2.2.2.2.2.2.2.1 (t := 29) rfl h (fun h => ?_) (fun h => ?_)
    · skip
      exact kz_weak [(0, .ref (w_adr E.2.1 4 0)), (1, .int x1), (2, va_rf (x2)), (3, va_rf (x3))] ⟨rfl, ⟨rfl, ⟨rfl, ⟨rfl, trivial⟩⟩⟩⟩ rfl (zt_X5_options_p29 hL  h)
    · skip
      refine kz_aload_nv (M := kt_M199) (x := x3) kX5_options_c2.1 rfl ?_
      obtain ⟨p3, hxp3, hlp3, h⟩ := h
      refine kz_nz0 (x := x3) hxp3 ?_
      refine kz_gfi (M := kt_M199) (c := 14) (o := p3) kX5_options_c2.2.1 wf_X5_285 (.inr (by exact hlp3)) ?_
      refine kz_if_ne (M := kt_M199) kX5_options_c2.2.2.1 (t := 49) rfl h (fun h => ?_) (fun h => ?_)
      · skip
        exact kz_weak [(0, .ref (w_adr E.2.1 4 0)), (1, .int x1), (2, va_rf (x2)), (3, va_rf (x3))] ⟨rfl, ⟨rfl, ⟨rfl, ⟨rfl, trivial⟩⟩⟩⟩ rfl (zt_X5_options_p49 hL  h)
      · skip
        exact kz_weak [(0, .ref (w_adr E.2.1 4 0)), (1, .int x1), (2, va_rf (x2)), (3, va_rf (x3))] ⟨rfl, ⟨rfl, ⟨rfl, ⟨rfl, trivial⟩⟩⟩⟩ rfl (zt_X5_options_p29 hL  h)
def zb_X5_options_p0 (E : zE) (L : Nat) (Q : kx_Rs → wS → Prop) (x1 : Int32) (w : wS) : Prop := zL_X5_options_p4 E L Q x1 none none w
theorem zt_X5_options_p0 {E : zE} {L : Nat} {Q : kx_Rs → wS → Prop} {x1 : Int32} {w : wS} (hL : 23 ≤ L) (h : zb_X5_options_p0 E L Q x1 w) : kzE E L kt_M199 0 [(0, .ref (w_adr E.2.1 4 0)), (1, .int x1)] [] w Q := by
  unfold zb_X5_options_p0 at h
  refine kz_null (M := kt_M199) kX5_options_c0.1 ?_
  refine kz_stv_n (M := kt_M199) (x := none) [(0, .ref (w_adr E.2.1 4 0)), (1, .int x1)] kX5_options_c0.2.1 (Nat.le_of_ble_eq_true rfl) ⟨⟨rfl, rfl, .inl rfl⟩, ⟨⟨rfl, rfl, .inr rfl⟩, trivial⟩⟩ rfl ?_
  refine kz_null (M := kt_M199) kX5_options_c0.2.2.1 ?_
  refine kz_stv_n (M := kt_M199) (x := none) [(0, .ref (w_adr E.2.1 4 0)), (1, .int x1), (2, va_rf (none))] kX5_options_c0.2.2.2.1 (Nat.le_of_ble_eq_true rfl) ⟨⟨rfl, rfl, .inl rfl⟩, ⟨⟨rfl, rfl, .inl rfl⟩, ⟨⟨rfl, rfl, .inr (w_cat (none))⟩, trivial⟩⟩⟩ rfl ?_
  exact kz_weak [(0, .ref (w_adr E.2.1 4 0)), (1, .int x1), (2, va_rf (none)), (3, va_rf (none))] ⟨rfl, ⟨rfl, ⟨rfl, ⟨rfl, trivial⟩⟩⟩⟩ rfl h
def zL_X5_alternation_p71 (E : zE) (L : Nat) (Q : kx_Rs → wS → Prop) (x1 : Option Nat) (x2 : Int32) (x3 : Option Nat) (x4 : Int32) (w : wS) : Prop := kzE E L kt_M161 71 [(0, .ref (w_adr E.2.1 4 0)), (1, va_rf (x1)), (2, .int x2), (3, va_rf (x3)), (4, .int x4)] [] w Q
def zb_X5_alternation_p148 (E : zE) (L : Nat) (Q : kx_Rs → wS → Prop) (x1 : Option Nat) (x2 : Int32) (x3 : Option Nat) (y0 : Int32) (w : wS) : Prop := zL_X5_alternation_p71 E L Q x1 x2 x3 y0 w
theorem zt_X5_alternation_p148 {E : zE} {L : Nat} {Q : kx_Rs → wS → Prop} {x1 : Option Nat} {x2 : Int32} {x3 : Option Nat} {y0 : Int32} {w : wS} (hL : 23 ≤ L) (h : zb_X5_alternation_p148 E L Q x1 x2 x3 y0 w) : kzE E L kt_M161 148 [(0, .ref (w_adr E.2.1 4 0)), (1, va_rf (x1)), (2, .int x2), (3, va_rf (x3))] [.int y0] w Q := by
  unfold zb_X5_alternation_p148 at h
  refine kz_sti (M := kt_M161) [(0, .ref (w_adr E.2.1 4 0)), (1, va_rf (x1)), (2, .int x2), (3, va_rf (x3))] kX5_alternation_c9.2.2.2.2.2.2.1 (Nat.le_of_ble_eq_true rfl) ⟨⟨rfl, rfl, .inl rfl⟩, ⟨⟨rfl, rfl, .inl rfl⟩, ⟨⟨rfl, rfl, .inl rfl⟩, ⟨⟨rfl, rfl, .inr (w_cat (x3))⟩, trivial⟩⟩⟩⟩ rfl ?_
  refine kz_goto (M := kt_M161) kX5_alternation_c9.2.2.2.2.2.2.2.1 (t := 71) rfl ?_
  exact kz_weak [(0, .ref (w_adr E.2.1 4 0)), (1, va_rf (x1)), (2, .int x2), (3, va_rf (x3)), (4, .int y0)] ⟨rfl, ⟨rfl, ⟨rfl, ⟨rfl, ⟨rfl, trivial⟩⟩⟩⟩⟩ rfl h
def zb_X5_alternation_p147 (E : zE) (L : Nat) (Q : kx_Rs → wS → Prop) (x1 : Option Nat) (x2 : Int32) (x3 : Option Nat) (w : wS) : Prop := zb_X5_alternation_p148 E L Q x1 x2 x3 0 w
theorem zt_X5_alternation_p147 {E : zE} {L : Nat} {Q : kx_Rs → wS → Prop} {x1 : Option Nat} {x2 : Int32} {x3 : Option Nat} {w : wS} (hL : 23 ≤ L) (h : zb_X5_alternation_p147 E L Q x1 x2 x3 w) : kzE E L kt_M161 147 [(0, .ref (w_adr E.2.1 4 0)), (1, va_rf (x1)), (2, .int x2), (3, va_rf (x3))] [] w Q := by
  unfold zb_X5_alternation_p147 at h
  refine kz_ic (M := kt_M161) 0 kX5_alternation_c9.2.2.2.2.2.1 rfl ?_
  exact kz_weak [(0, .ref (w_adr E.2.1 4 0)), (1, va_rf (x1)), (2, .int x2), (3, va_rf (x3))] ⟨rfl, ⟨rfl, ⟨rfl, ⟨rfl, trivial⟩⟩⟩⟩ rfl (zt_X5_alternation_p148 hL  h)
def zb_X5_alternation_p126 (E : zE) (L : Nat) (Q : kx_Rs → wS → Prop) (x1 : Option Nat) (x2 : Int32) (x3 : Option Nat) (w : wS) : Prop := (∃ p1, x1 = some p1 ∧ w_l w E.2.1 14 p1 ∧ (if ¬ (w_p w 14 p1 3) = none then zb_X5_alternation_p147 E L Q x1 x2 x3 w else zw E (L - 21) kt_M192 [.ref (w_adr E.2.1 4 0), .int (x2 + 1)] w (wk1 (fun v3 w2 => wle w w2 → (if v3 = 0 then zb_X5_alternation_p147 E L Q x1 x2 x3 w2 else zb_X5_alternation_p148 E L Q x1 x2 x3 1 w2)) (fun e w => Q (.inr e) w))))
theorem zt_X5_alternation_p126 {E : zE} {L : Nat} {Q : kx_Rs → wS → Prop} {x1 : Option Nat} {x2 : Int32} {x3 : Option Nat} {w : wS} (hL : 23 ≤ L) (h : zb_X5_alternation_p126 E L Q x1 x2 x3 w) : kzE E L kt_M161 126 [(0, .ref (w_adr E.2.1 4 0)), (1, va_rf (x1)), (2, .int x2), (3, va_rf (x3))] [] w Q := by
  unfold zb_X5_alternation_p126 at h
  refine kz_aload_nv (M := kt_M161) (x := x1) kX5_alternation_c8.2.2.1 rfl ?_
  obtain ⟨p1, hxp1, hlp1, h⟩ := h
  refine kz_nz0 (x := x1) hxp1 ?_
  refine kz_gfp (M := kt_M161) (c := 14) (o := p1) kX5_alternation_c8.2.2.2.1 wf_X5_162 (.inr (by exact hlp1)) ?_
  refine kz_ifnonnull (M := kt_M161) (x := w_p w 14 p1 3) kX5_alternation_c8.2.2.2.2.1 (t := 147) rfl h (fun h => ?_) (fun h => ?_)
  · skip
    exact kz_weak [(0, .ref (w_adr E.2.1 4 0)), (1, va_rf (x1)), (2, .int x2), (3, va_rf (x3))] ⟨rfl, ⟨rfl, ⟨rfl, ⟨rfl, trivial⟩⟩⟩⟩ rfl (zt_X5_alternation_p147 hL  h)
  · skip
    refine kz_aload_n (M := kt_M161) kX5_alternation_c8.2.2.2.2.2.1 rfl ?_
    refine kz_iload_n (M := kt_M161) kX5_alternation_c8.2.2.2.2.2.2.1 rfl ?_
    refine kz_ic (M := kt_M161) 1 kX5_alternation_c8.2.2.2.2.2.2.2.1 rfl ?_
    refine kz_iadd (M := kt_M161) kX5_alternation_c9.1 ?_
    refine kz_cv1 (M := kt_M161) (c := 4) (o := 0) (As := [.int (x2 + 1)]) (rest := []) kX5_alternation_c9.2.1 wl_X5_110 wMv_192 rfl (.inl rfl) rfl (Nat.le_trans (Nat.le_of_ble_eq_true rfl) hL) (Nat.le_of_ble_eq_true rfl) (Nat.le_of_ble_eq_true rfl) h (fun v3 w2 hle h => ?_) (fun _ _ _ h => kzx_no rfl h)
    have h := h hle
    have hlp1 := w_l_le hlp1 hle
    refine kz_if_eq (M := kt_M161) kX5_alternation_c9.2.2.1 (t := 147) rfl h (fun h => ?_) (fun h => ?_)
    · skip
      exact kz_weak [(0, .ref (w_adr E.2.1 4 0)), (1, va_rf (x1)), (2, .int x2), (3, va_rf (x3))] ⟨rfl, ⟨rfl, ⟨rfl, ⟨rfl, trivial⟩⟩⟩⟩ rfl (zt_X5_alternation_p147 hL  h)
    · skip
      refine kz_ic (M := kt_M161) 1 kX5_alternation_c9.2.2.2.1 rfl ?_
      refine kz_goto (M := kt_M161) kX5_alternation_c9.2.2.2.2.1 (t := 148) rfl ?_
      exact kz_weak [(0, .ref (w_adr E.2.1 4 0)), (1, va_rf (x1)), (2, .int x2), (3, va_rf (x3))] ⟨rfl, ⟨rfl, ⟨rfl, ⟨rfl, trivial⟩⟩⟩⟩ rfl (zt_X5_alternation_p148 hL  h)
def zb_X5_alternation_p101 (E : zE) (L : Nat) (Q : kx_Rs → wS → Prop) (x1 : Option Nat) (x2 : Int32) (x3 : Option Nat) (y0 : Int32) (y1 : Int32) (w : wS) : Prop := zw E (L - 22) kt_M211 [.ref (w_adr E.2.1 4 0), .int y1, .int y0] w (wk0 (fun w1 => wle w w1 → zw E (L - 23) kt_M181 [.ref (w_adr E.2.1 4 0), .int x2] w1 (wkr (fun v4 w3 => wle w1 w3 → zw E (L - 21) kt_M166 [va_rf (x3), va_rf (v4)] w3 (wkr (fun v6 w5 => wle w3 w5 → (∃ p7, x1 = some p7 ∧ w_l w5 E.2.1 14 p7 ∧ (if ¬ (w_p w5 14 p7 4) = none then zb_X5_alternation_p126 E L Q x1 x2 v6 w5 else zb_X5_alternation_p126 E L Q x1 x2 v6 (ws_p w5 14 p7 4 v6)))) (fun e w => Q (.inr e) w))) (fun e w => Q (.inr e) w))) (fun e w => Q (.inr e) w))
theorem zt_X5_alternation_p101 {E : zE} {L : Nat} {Q : kx_Rs → wS → Prop} {x1 : Option Nat} {x2 : Int32} {x3 : Option Nat} {y0 : Int32} {y1 : Int32} {w : wS} (hL : 23 ≤ L) (h : zb_X5_alternation_p101 E L Q x1 x2 x3 y0 y1 w) : kzE E L kt_M161 101 [(0, .ref (w_adr E.2.1 4 0)), (1, va_rf (x1)), (2, .int x2), (3, va_rf (x3))] [.int y0, .int y1, .ref (w_adr E.2.1 4 0)] w Q := by
  unfold zb_X5_alternation_p101 at h
  refine kz_cv0 (M := kt_M161) (c := 4) (o := 0) (As := [.int y1, .int y0]) (rest := []) kX5_alternation_c6.2.2.2.2.2.1 wl_X5_143 wMv_211 rfl (.inl rfl) rfl (Nat.le_trans (Nat.le_of_ble_eq_true rfl) hL) (Nat.le_of_ble_eq_true rfl) (Nat.le_of_ble_eq_true rfl) h (fun w1 hle h => ?_) (fun _ _ _ h => kzx_no rfl h)
  have h := h hle
  refine kz_aload_nv (M := kt_M161) (x := x3) kX5_alternation_c6.2.2.2.2.2.2.1 rfl ?_
  refine kz_aload_n (M := kt_M161) kX5_alternation_c6.2.2.2.2.2.2.2.1 rfl ?_
  refine kz_iload_n (M := kt_M161) kX5_alternation_c7.1 rfl ?_
  refine kz_cvr (M := kt_M161) (c := 4) (o := 0) (As := [.int x2]) (rest := [va_rf (x3)]) kX5_alternation_c7.2.1 wl_X5_358 wMv_181 rfl (.inl rfl) rfl (Nat.le_trans (Nat.le_of_ble_eq_true rfl) hL) (Nat.le_of_ble_eq_true rfl) (by simp [kx_cat, w_cat, z_ci, z_cr, z_cl, z_cn]) h (fun v4 w3 hle h => ?_) (fun _ _ _ h => kzx_no rfl h)
  have h := h hle
  refine kz_csr (M := kt_M161) (As := [va_rf (x3), va_rf (v4)]) (rest := []) kX5_alternation_c7.2.2.1 wl_X5_158 wMs_166 rfl (Nat.le_trans (Nat.le_of_ble_eq_true rfl) hL) (by simp [lg_sl, w_cat, z_ci, z_cr, z_cl, z_cn, kt_M166]) (Nat.le_of_ble_eq_true rfl) h (fun v6 w5 hle h => ?_) (fun _ _ _ h => kzx_no rfl h)
  have h := h hle
  refine kz_stv_n (M := kt_M161) (x := v6) [(0, .ref (w_adr E.2.1 4 0)), (1, va_rf (x1)), (2, .int x2)] kX5_alternation_c7.2.2.2.1 (Nat.le_of_ble_eq_true rfl) ⟨⟨rfl, rfl, .inl rfl⟩, ⟨⟨rfl, rfl, .inl rfl⟩, ⟨⟨rfl, rfl, .inr rfl⟩, trivial⟩⟩⟩ rfl ?_
  refine kz_aload_nv (M := kt_M161) (x := x1) kX5_alternation_c7.2.2.2.2.1 rfl ?_
  obtain ⟨p7, hxp7, hlp7, h⟩ := h
  refine kz_nz0 (x := x1) hxp7 ?_
  refine kz_gfp (M := kt_M161) (c := 14) (o := p7) kX5_alternation_c7.2.2.2.2.2.1 wf_X5_168 (.inr (by exact hlp7)) ?_
  refine kz_ifnonnull (M := kt_M161) (x := w_p w5 14 p7 4) kX5_alternation_c7.2.2.2.2.2.2.1 (t := 126) rfl h (fun h => ?_) (fun h => ?_)
  · skip
    exact kz_weak [(0, .ref (w_adr E.2.1 4 0)), (1, va_rf (x1)), (2, .int x2), (3, va_rf (v6))] ⟨rfl, ⟨rfl, ⟨rfl, ⟨rfl, trivial⟩⟩⟩⟩ rfl (zt_X5_alternation_p126 hL  h)
  · skip
    refine kz_aload_nv (M := kt_M161) (x := x1) kX5_alternation_c7.2.2.2.2.2.2.2.1 rfl ?_
    refine kz_aload_nv (M := kt_M161) (x := v6) kX5_alternation_c8.1 rfl ?_
    refine kz_nz1 (x := x1) hxp7 ?_
    refine kz_pfp (M := kt_M161) (n := v6) (c := 14) (o := p7) kX5_alternation_c8.2.1 wq_X5_168 (.inr (by exact hlp7)) ?_
    exact kz_weak [(0, .ref (w_adr E.2.1 4 0)), (1, va_rf (x1)), (2, .int x2), (3, va_rf (v6))] ⟨rfl, ⟨rfl, ⟨rfl, ⟨rfl, trivial⟩⟩⟩⟩ rfl (zt_X5_alternation_p126 hL  h)
def zb_X5_alternation_p96 (E : zE) (L : Nat) (Q : kx_Rs → wS → Prop) (x1 : Option Nat) (x2 : Int32) (x3 : Option Nat) (y0 : Int32) (w : wS) : Prop := zb_X5_alternation_p101 E L Q x1 x2 x3 1 y0 w
theorem zt_X5_alternation_p96 {E : zE} {L : Nat} {Q : kx_Rs → wS → Prop} {x1 : Option Nat} {x2 : Int32} {x3 : Option Nat} {y0 : Int32} {w : wS} (hL : 23 ≤ L) (h : zb_X5_alternation_p96 E L Q x1 x2 x3 y0 w) : kzE E L kt_M161 96 [(0, .ref (w_adr E.2.1 4 0)), (1, va_rf (x1)), (2, .int x2), (3, va_rf (x3))] [.int y0, .ref (w_adr E.2.1 4 0)] w Q := by
  unfold zb_X5_alternation_p96 at h
  refine kz_ic (M := kt_M161) 1 kX5_alternation_c6.2.2.1 rfl ?_
  refine kz_goto (M := kt_M161) kX5_alternation_c6.2.2.2.1 (t := 101) rfl ?_
  exact kz_weak [(0, .ref (w_adr E.2.1 4 0)), (1, va_rf (x1)), (2, .int x2), (3, va_rf (x3))] ⟨rfl, ⟨rfl, ⟨rfl, ⟨rfl, trivial⟩⟩⟩⟩ rfl (zt_X5_alternation_p101 hL  h)
def zb_X5_alternation_p71 (E : zE) (L : Nat) (Q : kx_Rs → wS → Prop) (x1 : Option Nat) (x2 : Int32) (x3 : Option Nat) (x4 : Int32) (w : wS) : Prop := (if x4 = 0 then Q (.inl none) w else zw E (L - 21) kt_M165 [.ref (w_adr E.2.1 4 0)] w (wk1 (fun v2 w1 => wle w w1 → (if ¬ v2 = 0 then zb_X5_alternation_p96 E L Q x1 x2 x3 (x2 + 1) w1 else zw E (L - 21) kt_M183 [.ref (w_adr E.2.1 4 0), .int 28] w1 (wk1 (fun v4 w3 => wle w1 w3 → (if v4 = 0 then zb_X5_alternation_p101 E L Q x1 x2 x3 0 (x2 + 1) w3 else zb_X5_alternation_p96 E L Q x1 x2 x3 (x2 + 1) w3)) (fun e w => Q (.inr e) w)))) (fun e w => Q (.inr e) w)))
theorem zt_X5_alternation_p71 {E : zE} {L : Nat} {Q : kx_Rs → wS → Prop} {x1 : Option Nat} {x2 : Int32} {x3 : Option Nat} {x4 : Int32} {w : wS} (hL : 23 ≤ L) (h : zb_X5_alternation_p71 E L Q x1 x2 x3 x4 w) : kzE E L kt_M161 71 [(0, .ref (w_adr E.2.1 4 0)), (1, va_rf (x1)), (2, .int x2), (3, va_rf (x3)), (4, .int x4)] [] w Q := by
  unfold zb_X5_alternation_p71 at h
  refine kz_iload (M := kt_M161) kX5_alternation_c4.2.2.2.2.2.1 rfl ?_
  refine kz_if_eq (M := kt_M161) kX5_alternation_c4.2.2.2.2.2.2.1 (t := 153) rfl h (fun h => ?_) (fun h => ?_)
  · skip
    exact kz_ret (M := kt_M161) kX5_alternation_c10.1 rfl h
  · skip
    refine kz_aload_n (M := kt_M161) kX5_alternation_c4.2.2.2.2.2.2.2.1 rfl ?_
    refine kz_iload_n (M := kt_M161) kX5_alternation_c5.1 rfl ?_
    refine kz_ic (M := kt_M161) 1 kX5_alternation_c5.2.1 rfl ?_
    refine kz_iadd (M := kt_M161) kX5_alternation_c5.2.2.1 ?_
    refine kz_aload_n (M := kt_M161) kX5_alternation_c5.2.2.2.1 rfl ?_
    refine kz_cv1 (M := kt_M161) (c := 4) (o := 0) (As := []) (rest := [.int (x2 + 1), .ref (w_adr E.2.1 4 0)]) kX5_alternation_c5.2.2.2.2.1 wl_X5_343 wMv_165 rfl (.inl rfl) rfl (Nat.le_trans (Nat.le_of_ble_eq_true rfl) hL) (Nat.le_of_ble_eq_true rfl) (Nat.le_of_ble_eq_true rfl) h (fun v2 w1 hle h => ?_) (fun _ _ _ h => kzx_no rfl h)
    have h := h hle
    refine kz_if_ne (M := kt_M161) kX5_alternation_c5.2.2.2.2.2.1 (t := 96) rfl h (fun h => ?_) (fun h => ?_)
    · skip
      exact kz_weak [(0, .ref (w_adr E.2.1 4 0)), (1, va_rf (x1)), (2, .int x2), (3, va_rf (x3))] ⟨rfl, ⟨rfl, ⟨rfl, ⟨rfl, trivial⟩⟩⟩⟩ rfl (zt_X5_alternation_p96 hL  h)
    · skip
      refine kz_aload_n (M := kt_M161) kX5_alternation_c5.2.2.2.2.2.2.1 rfl ?_
      refine kz_bi (M := kt_M161) 28 kX5_alternation_c5.2.2.2.2.2.2.2.1 rfl ?_
      refine kz_cv1 (M := kt_M161) (c := 4) (o := 0) (As := [.int 28]) (rest := [.int (x2 + 1), .ref (w_adr E.2.1 4 0)]) kX5_alternation_c6.1 wl_X5_79 wMv_183 rfl (.inl rfl) rfl (Nat.le_trans (Nat.le_of_ble_eq_true rfl) hL) (Nat.le_of_ble_eq_true rfl) (Nat.le_of_ble_eq_true rfl) h (fun v4 w3 hle h => ?_) (fun _ _ _ h => kzx_no rfl h)
      have h := h hle
      refine kz_if_eq (M := kt_M161) kX5_alternation_c6.2.1 (t := 100) rfl h (fun h => ?_) (fun h => ?_)
      · skip
        refine kz_ic (M := kt_M161) 0 kX5_alternation_c6.2.2.2.2.1 rfl ?_
        exact kz_weak [(0, .ref (w_adr E.2.1 4 0)), (1, va_rf (x1)), (2, .int x2), (3, va_rf (x3))] ⟨rfl, ⟨rfl, ⟨rfl, ⟨rfl, trivial⟩⟩⟩⟩ rfl (zt_X5_alternation_p101 hL  h)
      · skip
        exact kz_weak [(0, .ref (w_adr E.2.1 4 0)), (1, va_rf (x1)), (2, .int x2), (3, va_rf (x3))] ⟨rfl, ⟨rfl, ⟨rfl, ⟨rfl, trivial⟩⟩⟩⟩ rfl (zt_X5_alternation_p96 hL  h)
def zb_X5_alternation_p69 (E : zE) (L : Nat) (Q : kx_Rs → wS → Prop) (x1 : Option Nat) (x2 : Int32) (x3 : Option Nat) (y0 : Int32) (w : wS) : Prop := zL_X5_alternation_p71 E L Q x1 x2 x3 y0 w
theorem zt_X5_alternation_p69 {E : zE} {L : Nat} {Q : kx_Rs → wS → Prop} {x1 : Option Nat} {x2 : Int32} {x3 : Option Nat} {y0 : Int32} {w : wS} (hL : 23 ≤ L) (h : zb_X5_alternation_p69 E L Q x1 x2 x3 y0 w) : kzE E L kt_M161 69 [(0, .ref (w_adr E.2.1 4 0)), (1, va_rf (x1)), (2, .int x2), (3, va_rf (x3))] [.int y0] w Q := by
  unfold zb_X5_alternation_p69 at h
  refine kz_sti (M := kt_M161) [(0, .ref (w_adr E.2.1 4 0)), (1, va_rf (x1)), (2, .int x2), (3, va_rf (x3))] kX5_alternation_c4.2.2.2.2.1 (Nat.le_of_ble_eq_true rfl) ⟨⟨rfl, rfl, .inl rfl⟩, ⟨⟨rfl, rfl, .inl rfl⟩, ⟨⟨rfl, rfl, .inl rfl⟩, ⟨⟨rfl, rfl, .inr (w_cat (x3))⟩, trivial⟩⟩⟩⟩ rfl ?_
  exact kz_weak [(0, .ref (w_adr E.2.1 4 0)), (1, va_rf (x1)), (2, .int x2), (3, va_rf (x3)), (4, .int y0)] ⟨rfl, ⟨rfl, ⟨rfl, ⟨rfl, ⟨rfl, trivial⟩⟩⟩⟩⟩ rfl h
def zb_X5_alternation_p64 (E : zE) (L : Nat) (Q : kx_Rs → wS → Prop) (x1 : Option Nat) (x2 : Int32) (x3 : Option Nat) (w : wS) : Prop := zb_X5_alternation_p69 E L Q x1 x2 x3 1 w
theorem zt_X5_alternation_p64 {E : zE} {L : Nat} {Q : kx_Rs → wS → Prop} {x1 : Option Nat} {x2 : Int32} {x3 : Option Nat} {w : wS} (hL : 23 ≤ L) (h : zb_X5_alternation_p64 E L Q x1 x2 x3 w) : kzE E L kt_M161 64 [(0, .ref (w_adr E.2.1 4 0)), (1, va_rf (x1)), (2, .int x2), (3, va_rf (x3))] [] w Q := by
  unfold zb_X5_alternation_p64 at h
  refine kz_ic (M := kt_M161) 1 kX5_alternation_c4.2.1 rfl ?_
  refine kz_goto (M := kt_M161) kX5_alternation_c4.2.2.1 (t := 69) rfl ?_
  exact kz_weak [(0, .ref (w_adr E.2.1 4 0)), (1, va_rf (x1)), (2, .int x2), (3, va_rf (x3))] ⟨rfl, ⟨rfl, ⟨rfl, ⟨rfl, trivial⟩⟩⟩⟩ rfl (zt_X5_alternation_p69 hL  h)
def zb_X5_alternation_p28 (E : zE) (L : Nat) (Q : kx_Rs → wS → Prop) (x1 : Option Nat) (x2 : Int32) (w : wS) : Prop := zw E (L - 21) kt_M176 [.ref (w_adr E.2.1 4 0), .int 1] w (wk0 (fun w1 => wle w w1 → zw E (L - 21) kt_M206 [.ref (w_adr E.2.1 4 0)] w1 (wkr (fun v4 w3 => wle w1 w3 → (∃ p5, x1 = some p5 ∧ w_l w3 E.2.1 14 p5 ∧ zw E (L - 20) kt_M174 [.ref (w_adr E.2.1 4 0)] (ws_p w3 14 p5 3 v4) (wk0 (fun w6 => wle (ws_p w3 14 p5 3 v4) w6 → (if ¬ (w_p w6 14 p5 3) = none then zb_X5_alternation_p64 E L Q x1 x2 none w6 else zw E (L - 21) kt_M192 [.ref (w_adr E.2.1 4 0), .int (x2 + 1)] w6 (wk1 (fun v9 w8 => wle w6 w8 → (if v9 = 0 then zb_X5_alternation_p69 E L Q x1 x2 none 0 w8 else zb_X5_alternation_p64 E L Q x1 x2 none w8)) (fun e w => Q (.inr e) w)))) (fun e w => Q (.inr e) w)))) (fun e w => Q (.inr e) w))) (fun e w => Q (.inr e) w))
theorem zt_X5_alternation_p28 {E : zE} {L : Nat} {Q : kx_Rs → wS → Prop} {x1 : Option Nat} {x2 : Int32} {w : wS} (hL : 23 ≤ L) (h : zb_X5_alternation_p28 E L Q x1 x2 w) : kzE E L kt_M161 28 [(0, .ref (w_adr E.2.1 4 0)), (1, va_rf (x1)), (2, .int x2)] [] w Q := by
  unfold zb_X5_alternation_p28 at h
  refine kz_aload_n (M := kt_M161) kX5_alternation_c1.2.2.2.2.2.1 rfl ?_
  refine kz_ic (M := kt_M161) 1 kX5_alternation_c1.2.2.2.2.2.2.1 rfl ?_
  refine kz_cv0 (M := kt_M161) (c := 4) (o := 0) (As := [.int 1]) (rest := []) kX5_alternation_c1.2.2.2.2.2.2.2.1 wl_X5_100 wMv_176 rfl (.inl rfl) rfl (Nat.le_trans (Nat.le_of_ble_eq_true rfl) hL) (Nat.le_of_ble_eq_true rfl) (Nat.le_of_ble_eq_true rfl) h (fun w1 hle h => ?_) (fun _ _ _ h => kzx_no rfl h)
  have h := h hle
  refine kz_aload_nv (M := kt_M161) (x := x1) kX5_alternation_c2.1 rfl ?_
  refine kz_aload_n (M := kt_M161) kX5_alternation_c2.2.1 rfl ?_
  refine kz_cvr (M := kt_M161) (c := 4) (o := 0) (As := []) (rest := [va_rf (x1)]) kX5_alternation_c2.2.2.1 wl_X5_315 wMv_206 rfl (.inl rfl) rfl (Nat.le_trans (Nat.le_of_ble_eq_true rfl) hL) (Nat.le_of_ble_eq_true rfl) (by simp [kx_cat, w_cat, z_ci, z_cr, z_cl, z_cn]) h (fun v4 w3 hle h => ?_) (fun _ _ _ h => kzx_no rfl h)
  have h := h hle
  obtain ⟨p5, hxp5, hlp5, h⟩ := h
  refine kz_nz1 (x := x1) hxp5 ?_
  refine kz_pfp (M := kt_M161) (n := v4) (c := 14) (o := p5) kX5_alternation_c2.2.2.2.1 wq_X5_162 (.inr (by exact hlp5)) ?_
  refine kz_aload_n (M := kt_M161) kX5_alternation_c2.2.2.2.2.1 rfl ?_
  refine kz_cv0 (M := kt_M161) (c := 4) (o := 0) (As := []) (rest := []) kX5_alternation_c2.2.2.2.2.2.1 wl_X5_229 wMv_174 rfl (.inl rfl) rfl (Nat.le_trans (Nat.le_of_ble_eq_true rfl) hL) (Nat.le_of_ble_eq_true rfl) (Nat.le_of_ble_eq_true rfl) h (fun w6 hle h => ?_) (fun _ _ _ h => kzx_no rfl h)
  have h := h hle
  have hlp5 := w_l_le hlp5 hle
  refine kz_null (M := kt_M161) kX5_alternation_c2.2.2.2.2.2.2.1 ?_
  refine kz_stv_n (M := kt_M161) (x := none) [(0, .ref (w_adr E.2.1 4 0)), (1, va_rf (x1)), (2, .int x2)] kX5_alternation_c2.2.2.2.2.2.2.2.1 (Nat.le_of_ble_eq_true rfl) ⟨⟨rfl, rfl, .inl rfl⟩, ⟨⟨rfl, rfl, .inl rfl⟩, ⟨⟨rfl, rfl, .inr rfl⟩, trivial⟩⟩⟩ rfl ?_
  refine kz_aload_nv (M := kt_M161) (x := x1) kX5_alternation_c3.1 rfl ?_
  refine kz_nz0 (x := x1) hxp5 ?_
  refine kz_gfp (M := kt_M161) (c := 14) (o := p5) kX5_alternation_c3.2.1 wf_X5_162 (.inr (by exact hlp5)) ?_
  refine kz_ifnonnull (M := kt_M161) (x := w_p w6 14 p5 3) kX5_alternation_c3.2.2.1 (t := 64) rfl h (fun h => ?_) (fun h => ?_)
  · skip
    exact kz_weak [(0, .ref (w_adr E.2.1 4 0)), (1, va_rf (x1)), (2, .int x2), (3, va_rf (none))] ⟨rfl, ⟨rfl, ⟨rfl, ⟨rfl, trivial⟩⟩⟩⟩ rfl (zt_X5_alternation_p64 hL  h)
  · skip
    refine kz_aload_n (M := kt_M161) kX5_alternation_c3.2.2.2.1 rfl ?_
    refine kz_iload_n (M := kt_M161) kX5_alternation_c3.2.2.2.2.1 rfl ?_
    refine kz_ic (M := kt_M161) 1 kX5_alternation_c3.2.2.2.2.2.1 rfl ?_
    refine kz_iadd (M := kt_M161) kX5_alternation_c3.2.2.2.2.2.2.1 ?_
    refine kz_cv1 (M := kt_M161) (c := 4) (o := 0) (As := [.int (x2 + 1)]) (rest := []) kX5_alternation_c3.2.2.2.2.2.2.2.1 wl_X5_110 wMv_192 rfl (.inl rfl) rfl (Nat.le_trans (Nat.le_of_ble_eq_true rfl) hL) (Nat.le_of_ble_eq_true rfl) (Nat.le_of_ble_eq_true rfl) h (fun v9 w8 hle h => ?_) (fun _ _ _ h => kzx_no rfl h)
    have h := h hle
    have hlp5 := w_l_le hlp5 hle
    refine kz_if_eq (M := kt_M161) kX5_alternation_c4.1 (t := 68) rfl h (fun h => ?_) (fun h => ?_)
    · skip
      refine kz_ic (M := kt_M161) 0 kX5_alternation_c4.2.2.2.1 rfl ?_
      exact kz_weak [(0, .ref (w_adr E.2.1 4 0)), (1, va_rf (x1)), (2, .int x2), (3, va_rf (none))] ⟨rfl, ⟨rfl, ⟨rfl, ⟨rfl, trivial⟩⟩⟩⟩ rfl (zt_X5_alternation_p69 hL  h)
    · skip
      exact kz_weak [(0, .ref (w_adr E.2.1 4 0)), (1, va_rf (x1)), (2, .int x2), (3, va_rf (none))] ⟨rfl, ⟨rfl, ⟨rfl, ⟨rfl, trivial⟩⟩⟩⟩ rfl (zt_X5_alternation_p64 hL  h)
def zb_X5_alternation_p0 (E : zE) (L : Nat) (Q : kx_Rs → wS → Prop) (x1 : Option Nat) (x2 : Int32) (w : wS) : Prop := (∃ p1, x1 = some p1 ∧ w_l w E.2.1 14 p1 ∧ zw E (L - 21) kt_M183 [.ref (w_adr E.2.1 4 0), .int 22] (ws_p w 14 p1 0 (some (E.1.1 51))) (wk1 (fun v3 w2 => wle (ws_p w 14 p1 0 (some (E.1.1 51))) w2 → ((v3 = 0 ∨ v3 = 1) ∧ (if v3 = 0 then zb_X5_alternation_p28 E L Q x1 x2 (ws_i w2 14 p1 11 v3) else zw E (L - 20) kt_M195 [.ref (w_adr E.2.1 4 0)] (ws_i w2 14 p1 11 v3) (wk0 (fun w4 => wle (ws_i w2 14 p1 11 v3) w4 → zb_X5_alternation_p28 E L Q x1 x2 w4) (fun e w => Q (.inr e) w))))) (fun e w => Q (.inr e) w)))
theorem zt_X5_alternation_p0 {E : zE} {L : Nat} {Q : kx_Rs → wS → Prop} {x1 : Option Nat} {x2 : Int32} {w : wS} (hL : 23 ≤ L) (h : zb_X5_alternation_p0 E L Q x1 x2 w) : kzE E L kt_M161 0 [(0, .ref (w_adr E.2.1 4 0)), (1, va_rf (x1)), (2, .int x2)] [] w Q := by
  unfold zb_X5_alternation_p0 at h
  refine kz_aload_nv (M := kt_M161) (x := x1) kX5_alternation_c0.1 rfl ?_
  refine kz_getsE (M := kt_M161) (v := va_rf (some (E.1.1 51))) kX5_alternation_c0.2.1 zs_X5_355 ?_
  obtain ⟨p1, hxp1, hlp1, h⟩ := h
  refine kz_nz1 (x := x1) hxp1 ?_
  refine kz_pfp (M := kt_M161) (n := some (E.1.1 51)) (c := 14) (o := p1) kX5_alternation_c0.2.2.1 wq_X5_214 (.inr (by exact hlp1)) ?_
  refine kz_aload_nv (M := kt_M161) (x := x1) kX5_alternation_c0.2.2.2.1 rfl ?_
  refine kz_aload_n (M := kt_M161) kX5_alternation_c0.2.2.2.2.1 rfl ?_
  refine kz_bi (M := kt_M161) 22 kX5_alternation_c0.2.2.2.2.2.1 rfl ?_
  refine kz_cv1 (M := kt_M161) (c := 4) (o := 0) (As := [.int 22]) (rest := [va_rf (x1)]) kX5_alternation_c0.2.2.2.2.2.2.1 wl_X5_79 wMv_183 rfl (.inl rfl) rfl (Nat.le_trans (Nat.le_of_ble_eq_true rfl) hL) (Nat.le_of_ble_eq_true rfl) (by simp [kx_cat, w_cat, z_ci, z_cr, z_cl, z_cn]) h (fun v3 w2 hle h => ?_) (fun _ _ _ h => kzx_no rfl h)
  have h := h hle
  have hlp1 := w_l_le hlp1 hle
  refine kz_nz1 (x := x1) hxp1 ?_
  obtain ⟨h0, h⟩ := h
  refine kz_pfz (M := kt_M161) (c := 14) (o := p1) kX5_alternation_c0.2.2.2.2.2.2.2.1 wq_X5_285 (.inr (by exact hlp1)) h0 ?_
  refine kz_aload_nv (M := kt_M161) (x := x1) kX5_alternation_c1.1 rfl ?_
  refine kz_nz0 (x := x1) hxp1 ?_
  refine kz_gfiR (M := kt_M161) (c := 14) (o := p1) v3 kX5_alternation_c1.2.1 wf_X5_285 (.inr (by exact hlp1)) rd_i_e ?_
  refine kz_if_eq (M := kt_M161) kX5_alternation_c1.2.2.1 (t := 28) rfl h (fun h => ?_) (fun h => ?_)
  · skip
    exact kz_weak [(0, .ref (w_adr E.2.1 4 0)), (1, va_rf (x1)), (2, .int x2)] ⟨rfl, ⟨rfl, ⟨rfl, trivial⟩⟩⟩ rfl (zt_X5_alternation_p28 hL  h)
  · skip
    refine kz_aload_n (M := kt_M161) kX5_alternation_c1.2.2.2.1 rfl ?_
    refine kz_cv0 (M := kt_M161) (c := 4) (o := 0) (As := []) (rest := []) kX5_alternation_c1.2.2.2.2.1 wl_X5_85 wMv_195 rfl (.inl rfl) rfl (Nat.le_trans (Nat.le_of_ble_eq_true rfl) hL) (Nat.le_of_ble_eq_true rfl) (Nat.le_of_ble_eq_true rfl) h (fun w4 hle h => ?_) (fun _ _ _ h => kzx_no rfl h)
    have h := h hle
    have hlp1 := w_l_le hlp1 hle
    exact kz_weak [(0, .ref (w_adr E.2.1 4 0)), (1, va_rf (x1)), (2, .int x2)] ⟨rfl, ⟨rfl, ⟨rfl, trivial⟩⟩⟩ rfl (zt_X5_alternation_p28 hL  h)
def zb_X5_guard_p235 (E : zE) (L : Nat) (Q : kx_Rs → wS → Prop) (x2 : Option Nat) (w : wS) : Prop := Q (.inl (some (va_rf (x2)))) w
theorem zt_X5_guard_p235 {E : zE} {L : Nat} {Q : kx_Rs → wS → Prop} {x2 : Option Nat} {w : wS} (hL : 24 ≤ L) (h : zb_X5_guard_p235 E L Q x2 w) : kzE E L kt_M181 235 [(0, .ref (w_adr E.2.1 4 0)), (2, va_rf (x2))] [] w Q := by
  unfold zb_X5_guard_p235 at h
  refine kz_aload_nv (M := kt_M181) (x := x2) kX5_guard_c15.2.2.1 rfl ?_
  exact kz_areto (x := x2) (M := kt_M181) kX5_guard_c15.2.2.2.1 rfl h
def zb_X5_guard_p198 (E : zE) (L : Nat) (Q : kx_Rs → wS → Prop) (x1 : Int32) (x2 : Option Nat) (w : wS) : Prop := zw E (L - 20) kt_M174 [.ref (w_adr E.2.1 4 0)] w (wk0 (fun w1 => wle w w1 → (∃ p3, x2 = some p3 ∧ w_l w1 E.2.1 14 p3 ∧ (if ¬ w_i w1 14 p3 10 = 3 then zw E (L - 23) kt_M202 [.ref (w_adr E.2.1 4 0), .int (x1 + 2)] w1 (wkr (fun v5 w4 => wle w1 w4 → zb_X5_guard_p235 E L Q x2 (ws_p w4 14 p3 6 v5)) (fun e w => Q (.inr e) w)) else zw E (L - 23) kt_M215 [.ref (w_adr E.2.1 4 0), .int (x1 + 2)] w1 (wkr (fun v7 w6 => wle w1 w6 → zb_X5_guard_p235 E L Q x2 (ws_p w6 14 p3 4 v7)) (fun e w => Q (.inr e) w))))) (fun e w => Q (.inr e) w))
theorem zt_X5_guard_p198 {E : zE} {L : Nat} {Q : kx_Rs → wS → Prop} {x1 : Int32} {x2 : Option Nat} {w : wS} (hL : 24 ≤ L) (h : zb_X5_guard_p198 E L Q x1 x2 w) : kzE E L kt_M181 198 [(0, .ref (w_adr E.2.1 4 0)), (1, .int x1), (2, va_rf (x2))] [] w Q := by
  unfold zb_X5_guard_p198 at h
  refine kz_aload_n (M := kt_M181) kX5_guard_c12.2.2.2.2.2.1 rfl ?_
  refine kz_cv0 (M := kt_M181) (c := 4) (o := 0) (As := []) (rest := []) kX5_guard_c12.2.2.2.2.2.2.1 wl_X5_229 wMv_174 rfl (.inl rfl) rfl (Nat.le_trans (Nat.le_of_ble_eq_true rfl) hL) (Nat.le_of_ble_eq_true rfl) (Nat.le_of_ble_eq_true rfl) h (fun w1 hle h => ?_) (fun _ _ _ h => kzx_no rfl h)
  have h := h hle
  refine kz_aload_nv (M := kt_M181) (x := x2) kX5_guard_c12.2.2.2.2.2.2.2.1 rfl ?_
  obtain ⟨p3, hxp3, hlp3, h⟩ := h
  refine kz_nz0 (x := x2) hxp3 ?_
  refine kz_gfi (M := kt_M181) (c := 14) (o := p3) kX5_guard_c13.1 wf_X5_370 (.inr (by exact hlp3)) ?_
  refine kz_ic (M := kt_M181) 3 kX5_guard_c13.2.1 rfl ?_
  refine kz_icmp_ne (M := kt_M181) kX5_guard_c13.2.2.1 (t := 224) rfl h (fun h => ?_) (fun h => ?_)
  · skip
    refine kz_aload_nv (M := kt_M181) (x := x2) kX5_guard_c14.2.2.2.1 rfl ?_
    refine kz_aload_n (M := kt_M181) kX5_guard_c14.2.2.2.2.1 rfl ?_
    refine kz_iload_n (M := kt_M181) kX5_guard_c14.2.2.2.2.2.1 rfl ?_
    refine kz_ic (M := kt_M181) 2 kX5_guard_c14.2.2.2.2.2.2.1 rfl ?_
    refine kz_iadd (M := kt_M181) kX5_guard_c14.2.2.2.2.2.2.2.1 ?_
    refine kz_cvr (M := kt_M181) (c := 4) (o := 0) (As := [.int (x1 + 2)]) (rest := [va_rf (x2)]) kX5_guard_c15.1 wl_X5_133 wMv_202 rfl (.inl rfl) rfl (Nat.le_trans (Nat.le_of_ble_eq_true rfl) hL) (Nat.le_of_ble_eq_true rfl) (by simp [kx_cat, w_cat, z_ci, z_cr, z_cl, z_cn]) h (fun v5 w4 hle h => ?_) (fun _ _ _ h => kzx_no rfl h)
    have h := h hle
    have hlp3 := w_l_le hlp3 hle
    refine kz_nz1 (x := x2) hxp3 ?_
    refine kz_pfp (M := kt_M181) (n := v5) (c := 14) (o := p3) kX5_guard_c15.2.1 wq_X5_288 (.inr (by exact hlp3)) ?_
    exact kz_weak [(0, .ref (w_adr E.2.1 4 0)), (2, va_rf (x2))] ⟨rfl, ⟨rfl, trivial⟩⟩ rfl (zt_X5_guard_p235 hL  h)
  · skip
    refine kz_aload_nv (M := kt_M181) (x := x2) kX5_guard_c13.2.2.2.1 rfl ?_
    refine kz_aload_n (M := kt_M181) kX5_guard_c13.2.2.2.2.1 rfl ?_
    refine kz_iload_n (M := kt_M181) kX5_guard_c13.2.2.2.2.2.1 rfl ?_
    refine kz_ic (M := kt_M181) 2 kX5_guard_c13.2.2.2.2.2.2.1 rfl ?_
    refine kz_iadd (M := kt_M181) kX5_guard_c13.2.2.2.2.2.2.2.1 ?_
    refine kz_cvr (M := kt_M181) (c := 4) (o := 0) (As := [.int (x1 + 2)]) (rest := [va_rf (x2)]) kX5_guard_c14.1 wl_X5_376 wMv_215 rfl (.inl rfl) rfl (Nat.le_trans (Nat.le_of_ble_eq_true rfl) hL) (Nat.le_of_ble_eq_true rfl) (by simp [kx_cat, w_cat, z_ci, z_cr, z_cl, z_cn]) h (fun v7 w6 hle h => ?_) (fun _ _ _ h => kzx_no rfl h)
    have h := h hle
    have hlp3 := w_l_le hlp3 hle
    refine kz_nz1 (x := x2) hxp3 ?_
    refine kz_pfp (M := kt_M181) (n := v7) (c := 14) (o := p3) kX5_guard_c14.2.1 wq_X5_168 (.inr (by exact hlp3)) ?_
    refine kz_goto (M := kt_M181) kX5_guard_c14.2.2.1 (t := 235) rfl ?_
    exact kz_weak [(0, .ref (w_adr E.2.1 4 0)), (2, va_rf (x2))] ⟨rfl, ⟨rfl, trivial⟩⟩ rfl (zt_X5_guard_p235 hL  h)
def zb_X5_guard_p161 (E : zE) (L : Nat) (Q : kx_Rs → wS → Prop) (x1 : Int32) (x2 : Option Nat) (w : wS) : Prop := (∃ p1, x2 = some p1 ∧ w_l w E.2.1 14 p1 ∧ (if ¬ w_i w 14 p1 10 = 2 then (if ¬ w_i w 14 p1 10 = 1 then zb_X5_guard_p198 E L Q x1 x2 w else zw E (L - 24) kt_M173 [.ref (w_adr E.2.1 4 0), .int 41] w (wkr (fun v3 w2 => wle w w2 → zb_X5_guard_p198 E L Q x1 x2 (ws_p w2 14 p1 4 v3)) (fun e w => Q (.inr e) w))) else zw E (L - 22) kt_M177 [.ref (w_adr E.2.1 4 0)] w (wkr (fun v5 w4 => wle w w4 → zb_X5_guard_p198 E L Q x1 x2 (ws_p w4 14 p1 4 v5)) (fun e w => Q (.inr e) w))))
theorem zt_X5_guard_p161 {E : zE} {L : Nat} {Q : kx_Rs → wS → Prop} {x1 : Int32} {x2 : Option Nat} {w : wS} (hL : 24 ≤ L) (h : zb_X5_guard_p161 E L Q x1 x2 w) : kzE E L kt_M181 161 [(0, .ref (w_adr E.2.1 4 0)), (1, .int x1), (2, va_rf (x2))] [] w Q := by
  unfold zb_X5_guard_p161 at h
  refine kz_aload_nv (M := kt_M181) (x := x2) kX5_guard_c10.2.2.2.1 rfl ?_
  obtain ⟨p1, hxp1, hlp1, h⟩ := h
  refine kz_nz0 (x := x2) hxp1 ?_
  refine kz_gfi (M := kt_M181) (c := 14) (o := p1) kX5_guard_c10.2.2.2.2.1 wf_X5_370 (.inr (by exact hlp1)) ?_
  refine kz_ic (M := kt_M181) 2 kX5_guard_c10.2.2.2.2.2.1 rfl ?_
  refine kz_icmp_ne (M := kt_M181) kX5_guard_c10.2.2.2.2.2.2.1 (t := 180) rfl h (fun h => ?_) (fun h => ?_)
  · skip
    refine kz_aload_nv (M := kt_M181) (x := x2) kX5_guard_c11.2.2.2.2.1 rfl ?_
    refine kz_nz0 (x := x2) hxp1 ?_
    refine kz_gfi (M := kt_M181) (c := 14) (o := p1) kX5_guard_c11.2.2.2.2.2.1 wf_X5_370 (.inr (by exact hlp1)) ?_
    refine kz_ic (M := kt_M181) 1 kX5_guard_c11.2.2.2.2.2.2.1 rfl ?_
    refine kz_icmp_ne (M := kt_M181) kX5_guard_c11.2.2.2.2.2.2.2.1 (t := 198) rfl h (fun h => ?_) (fun h => ?_)
    · skip
      exact kz_weak [(0, .ref (w_adr E.2.1 4 0)), (1, .int x1), (2, va_rf (x2))] ⟨rfl, ⟨rfl, ⟨rfl, trivial⟩⟩⟩ rfl (zt_X5_guard_p198 hL  h)
    · skip
      refine kz_aload_nv (M := kt_M181) (x := x2) kX5_guard_c12.1 rfl ?_
      refine kz_aload_n (M := kt_M181) kX5_guard_c12.2.1 rfl ?_
      refine kz_bi (M := kt_M181) 41 kX5_guard_c12.2.2.1 rfl ?_
      refine kz_cvr (M := kt_M181) (c := 4) (o := 0) (As := [.int 41]) (rest := [va_rf (x2)]) kX5_guard_c12.2.2.2.1 wl_X5_373 wMv_173 rfl (.inl rfl) rfl (Nat.le_trans (Nat.le_of_ble_eq_true rfl) hL) (Nat.le_of_ble_eq_true rfl) (by simp [kx_cat, w_cat, z_ci, z_cr, z_cl, z_cn]) h (fun v3 w2 hle h => ?_) (fun _ _ _ h => kzx_no rfl h)
      have h := h hle
      have hlp1 := w_l_le hlp1 hle
      refine kz_nz1 (x := x2) hxp1 ?_
      refine kz_pfp (M := kt_M181) (n := v3) (c := 14) (o := p1) kX5_guard_c12.2.2.2.2.1 wq_X5_168 (.inr (by exact hlp1)) ?_
      exact kz_weak [(0, .ref (w_adr E.2.1 4 0)), (1, .int x1), (2, va_rf (x2))] ⟨rfl, ⟨rfl, ⟨rfl, trivial⟩⟩⟩ rfl (zt_X5_guard_p198 hL  h)
  · skip
    refine kz_aload_nv (M := kt_M181) (x := x2) kX5_guard_c10.2.2.2.2.2.2.2.1 rfl ?_
    refine kz_aload_n (M := kt_M181) kX5_guard_c11.1 rfl ?_
    refine kz_cvr (M := kt_M181) (c := 4) (o := 0) (As := []) (rest := [va_rf (x2)]) kX5_guard_c11.2.1 wl_X5_194 wMv_177 rfl (.inl rfl) rfl (Nat.le_trans (Nat.le_of_ble_eq_true rfl) hL) (Nat.le_of_ble_eq_true rfl) (by simp [kx_cat, w_cat, z_ci, z_cr, z_cl, z_cn]) h (fun v5 w4 hle h => ?_) (fun _ _ _ h => kzx_no rfl h)
    have h := h hle
    have hlp1 := w_l_le hlp1 hle
    refine kz_nz1 (x := x2) hxp1 ?_
    refine kz_pfp (M := kt_M181) (n := v5) (c := 14) (o := p1) kX5_guard_c11.2.2.1 wq_X5_168 (.inr (by exact hlp1)) ?_
    refine kz_goto (M := kt_M181) kX5_guard_c11.2.2.2.1 (t := 198) rfl ?_
    exact kz_weak [(0, .ref (w_adr E.2.1 4 0)), (1, .int x1), (2, va_rf (x2))] ⟨rfl, ⟨rfl, ⟨rfl, trivial⟩⟩⟩ rfl (zt_X5_guard_p198 hL  h)
def zb_X5_guard_p146 (E : zE) (L : Nat) (Q : kx_Rs → wS → Prop) (x1 : Int32) (x2 : Option Nat) (y0 : Int32) (y1 : Option Nat) (w : wS) : Prop := (∃ p1, y1 = some p1 ∧ w_l w E.2.1 14 p1 ∧ (∃ p2, x2 = some p2 ∧ w_l (ws_i w 14 p1 10 y0) E.2.1 14 p2 ∧ (if w_i (ws_i w 14 p1 10 y0) 14 p2 10 ≤ 1 then zb_X5_guard_p161 E L Q x1 x2 (ws_i w 14 p1 10 y0) else zw E (L - 20) kt_M195 [.ref (w_adr E.2.1 4 0)] (ws_i w 14 p1 10 y0) (wk0 (fun w3 => wle (ws_i w 14 p1 10 y0) w3 → zb_X5_guard_p161 E L Q x1 x2 w3) (fun e w => Q (.inr e) w)))))
theorem zt_X5_guard_p146 {E : zE} {L : Nat} {Q : kx_Rs → wS → Prop} {x1 : Int32} {x2 : Option Nat} {y0 : Int32} {y1 : Option Nat} {w : wS} (hL : 24 ≤ L) (h : zb_X5_guard_p146 E L Q x1 x2 y0 y1 w) : kzE E L kt_M181 146 [(0, .ref (w_adr E.2.1 4 0)), (1, .int x1), (2, va_rf (x2))] [.int y0, va_rf (y1)] w Q := by
  unfold zb_X5_guard_p146 at h
  obtain ⟨p1, hxp1, hlp1, h⟩ := h
  refine kz_nz1 (x := y1) hxp1 ?_
  refine kz_pfi (M := kt_M181) (c := 14) (o := p1) kX5_guard_c9.2.2.2.2.1 wq_X5_370 (.inr (by exact hlp1)) ?_
  refine kz_aload_nv (M := kt_M181) (x := x2) kX5_guard_c9.2.2.2.2.2.1 rfl ?_
  obtain ⟨p2, hxp2, hlp2, h⟩ := h
  refine kz_nz0 (x := x2) hxp2 ?_
  refine kz_gfiR (M := kt_M181) (c := 14) (o := p2) (w_i (ws_i w 14 p1 10 y0) 14 p2 10) kX5_guard_c9.2.2.2.2.2.2.1 wf_X5_370 (.inr (by exact hlp2)) rfl ?_
  refine kz_ic (M := kt_M181) 1 kX5_guard_c9.2.2.2.2.2.2.2.1 rfl ?_
  refine kz_icmp_le (M := kt_M181) kX5_guard_c10.1 (t := 161) rfl h (fun h => ?_) (fun h => ?_)
  · skip
    exact kz_weak [(0, .ref (w_adr E.2.1 4 0)), (1, .int x1), (2, va_rf (x2))] ⟨rfl, ⟨rfl, ⟨rfl, trivial⟩⟩⟩ rfl (zt_X5_guard_p161 hL  h)
  · skip
    refine kz_aload_n (M := kt_M181) kX5_guard_c10.2.1 rfl ?_
    refine kz_cv0 (M := kt_M181) (c := 4) (o := 0) (As := []) (rest := []) kX5_guard_c10.2.2.1 wl_X5_85 wMv_195 rfl (.inl rfl) rfl (Nat.le_trans (Nat.le_of_ble_eq_true rfl) hL) (Nat.le_of_ble_eq_true rfl) (Nat.le_of_ble_eq_true rfl) h (fun w3 hle h => ?_) (fun _ _ _ h => kzx_no rfl h)
    have h := h hle
    have hlp1 := w_l_le hlp1 hle
    have hlp2 := w_l_le hlp2 hle
    exact kz_weak [(0, .ref (w_adr E.2.1 4 0)), (1, .int x1), (2, va_rf (x2))] ⟨rfl, ⟨rfl, ⟨rfl, trivial⟩⟩⟩ rfl (zt_X5_guard_p161 hL  h)
def zb_X5_guard_p84 (E : zE) (L : Nat) (Q : kx_Rs → wS → Prop) (x1 : Int32) (x2 : Option Nat) (x3 : Option Nat) (w : wS) : Prop := (if ¬ x3 = none then zw E (L - 21) kt_M176 [.ref (w_adr E.2.1 4 0), .int 44] w (wk0 (fun w1 => wle w w1 → (∃ p3, x2 = some p3 ∧ w_l w1 E.2.1 14 p3 ∧ zw E (L - 21) kt_M183 [.ref (w_adr E.2.1 4 0), .int 0] (ws_p w1 14 p3 3 x3) (wk1 (fun v5 w4 => wle (ws_p w1 14 p3 3 x3) w4 → (if v5 = 0 then zw E (L - 21) kt_M183 [.ref (w_adr E.2.1 4 0), .int 5] w4 (wk1 (fun v7 w6 => wle w4 w6 → (if v7 = 0 then zb_X5_guard_p146 E L Q x1 x2 1 x2 w6 else zb_X5_guard_p146 E L Q x1 x2 3 x2 w6)) (fun e w => Q (.inr e) w)) else zb_X5_guard_p146 E L Q x1 x2 2 x2 w4)) (fun e w => Q (.inr e) w)))) (fun e w => Q (.inr e) w)) else zw E (L - 20) kt_M195 [.ref (w_adr E.2.1 4 0)] w (wk0 (fun w8 => wle w w8 → zw E (L - 20) kt_M174 [.ref (w_adr E.2.1 4 0)] w8 (wk0 (fun w10 => wle w8 w10 → zw E (L - 23) kt_M202 [.ref (w_adr E.2.1 4 0), .int (x1 + 2)] w10 (wkr (fun v13 w12 => wle w10 w12 → (∃ p14, x2 = some p14 ∧ w_l w12 E.2.1 14 p14 ∧ Q (.inl (some (va_rf (x2)))) (ws_p w12 14 p14 6 v13))) (fun e w => Q (.inr e) w))) (fun e w => Q (.inr e) w))) (fun e w => Q (.inr e) w)))
theorem zt_X5_guard_p84 {E : zE} {L : Nat} {Q : kx_Rs → wS → Prop} {x1 : Int32} {x2 : Option Nat} {x3 : Option Nat} {w : wS} (hL : 24 ≤ L) (h : zb_X5_guard_p84 E L Q x1 x2 x3 w) : kzE E L kt_M181 84 [(0, .ref (w_adr E.2.1 4 0)), (1, .int x1), (2, va_rf (x2)), (3, va_rf (x3))] [] w Q := by
  unfold zb_X5_guard_p84 at h
  refine kz_aload_nv (M := kt_M181) (x := x3) kX5_guard_c5.2.1 rfl ?_
  refine kz_ifnonnull (M := kt_M181) (x := x3) kX5_guard_c5.2.2.1 (t := 109) rfl h (fun h => ?_) (fun h => ?_)
  · skip
    refine kz_aload_n (M := kt_M181) kX5_guard_c7.1 rfl ?_
    refine kz_bi (M := kt_M181) 44 kX5_guard_c7.2.1 rfl ?_
    refine kz_cv0 (M := kt_M181) (c := 4) (o := 0) (As := [.int 44]) (rest := []) kX5_guard_c7.2.2.1 wl_X5_100 wMv_176 rfl (.inl rfl) rfl (Nat.le_trans (Nat.le_of_ble_eq_true rfl) hL) (Nat.le_of_ble_eq_true rfl) (Nat.le_of_ble_eq_true rfl) h (fun w1 hle h => ?_) (fun _ _ _ h => kzx_no rfl h)
    have h := h hle
    refine kz_aload_nv (M := kt_M181) (x := x2) kX5_guard_c7.2.2.2.1 rfl ?_
    refine kz_aload_nv (M := kt_M181) (x := x3) kX5_guard_c7.2.2.2.2.1 rfl ?_
    obtain ⟨p3, hxp3, hlp3, h⟩ := h
    refine kz_nz1 (x := x2) hxp3 ?_
    refine kz_pfp (M := kt_M181) (n := x3) (c := 14) (o := p3) kX5_guard_c7.2.2.2.2.2.1 wq_X5_162 (.inr (by exact hlp3)) ?_
    refine kz_aload_nv (M := kt_M181) (x := x2) kX5_guard_c7.2.2.2.2.2.2.1 rfl ?_
    refine kz_aload_n (M := kt_M181) kX5_guard_c7.2.2.2.2.2.2.2.1 rfl ?_
    refine kz_ic (M := kt_M181) 0 kX5_guard_c8.1 rfl ?_
    refine kz_cv1 (M := kt_M181) (c := 4) (o := 0) (As := [.int 0]) (rest := [va_rf (x2)]) kX5_guard_c8.2.1 wl_X5_79 wMv_183 rfl (.inl rfl) rfl (Nat.le_trans (Nat.le_of_ble_eq_true rfl) hL) (Nat.le_of_ble_eq_true rfl) (by simp [kx_cat, w_cat, z_ci, z_cr, z_cl, z_cn]) h (fun v5 w4 hle h => ?_) (fun _ _ _ h => kzx_no rfl h)
    have h := h hle
    have hlp3 := w_l_le hlp3 hle
    refine kz_if_eq (M := kt_M181) kX5_guard_c8.2.2.1 (t := 133) rfl h (fun h => ?_) (fun h => ?_)
    · skip
      refine kz_aload_n (M := kt_M181) kX5_guard_c8.2.2.2.2.2.1 rfl ?_
      refine kz_ic (M := kt_M181) 5 kX5_guard_c8.2.2.2.2.2.2.1 rfl ?_
      refine kz_cv1 (M := kt_M181) (c := 4) (o := 0) (As := [.int 5]) (rest := [va_rf (x2)]) kX5_guard_c8.2.2.2.2.2.2.2.1 wl_X5_79 wMv_183 rfl (.inl rfl) rfl (Nat.le_trans (Nat.le_of_ble_eq_true rfl) hL) (Nat.le_of_ble_eq_true rfl) (by simp [kx_cat, w_cat, z_ci, z_cr, z_cl, z_cn]) h (fun v7 w6 hle h => ?_) (fun _ _ _ h => kzx_no rfl h)
      have h := h hle
      have hlp3 := w_l_le hlp3 hle
      refine kz_if_eq (M := kt_M181) kX5_guard_c9.1 (t := 145) rfl h (fun h => ?_) (fun h => ?_)
      · skip
        refine kz_ic (M := kt_M181) 1 kX5_guard_c9.2.2.2.1 rfl ?_
        exact kz_weak [(0, .ref (w_adr E.2.1 4 0)), (1, .int x1), (2, va_rf (x2))] ⟨rfl, ⟨rfl, ⟨rfl, trivial⟩⟩⟩ rfl (zt_X5_guard_p146 hL  h)
      · skip
        refine kz_ic (M := kt_M181) 3 kX5_guard_c9.2.1 rfl ?_
        refine kz_goto (M := kt_M181) kX5_guard_c9.2.2.1 (t := 146) rfl ?_
        exact kz_weak [(0, .ref (w_adr E.2.1 4 0)), (1, .int x1), (2, va_rf (x2))] ⟨rfl, ⟨rfl, ⟨rfl, trivial⟩⟩⟩ rfl (zt_X5_guard_p146 hL  h)
    · skip
      refine kz_ic (M := kt_M181) 2 kX5_guard_c8.2.2.2.1 rfl ?_
      refine kz_goto (M := kt_M181) kX5_guard_c8.2.2.2.2.1 (t := 146) rfl ?_
      exact kz_weak [(0, .ref (w_adr E.2.1 4 0)), (1, .int x1), (2, va_rf (x2))] ⟨rfl, ⟨rfl, ⟨rfl, trivial⟩⟩⟩ rfl (zt_X5_guard_p146 hL  h)
  · skip
    refine kz_aload_n (M := kt_M181) kX5_guard_c5.2.2.2.1 rfl ?_
    refine kz_cv0 (M := kt_M181) (c := 4) (o := 0) (As := []) (rest := []) kX5_guard_c5.2.2.2.2.1 wl_X5_85 wMv_195 rfl (.inl rfl) rfl (Nat.le_trans (Nat.le_of_ble_eq_true rfl) hL) (Nat.le_of_ble_eq_true rfl) (Nat.le_of_ble_eq_true rfl) h (fun w8 hle h => ?_) (fun _ _ _ h => kzx_no rfl h)
    have h := h hle
    refine kz_aload_n (M := kt_M181) kX5_guard_c5.2.2.2.2.2.1 rfl ?_
    refine kz_cv0 (M := kt_M181) (c := 4) (o := 0) (As := []) (rest := []) kX5_guard_c5.2.2.2.2.2.2.1 wl_X5_229 wMv_174 rfl (.inl rfl) rfl (Nat.le_trans (Nat.le_of_ble_eq_true rfl) hL) (Nat.le_of_ble_eq_true rfl) (Nat.le_of_ble_eq_true rfl) h (fun w10 hle h => ?_) (fun _ _ _ h => kzx_no rfl h)
    have h := h hle
    refine kz_aload_nv (M := kt_M181) (x := x2) kX5_guard_c5.2.2.2.2.2.2.2.1 rfl ?_
    refine kz_aload_n (M := kt_M181) kX5_guard_c6.1 rfl ?_
    refine kz_iload_n (M := kt_M181) kX5_guard_c6.2.1 rfl ?_
    refine kz_ic (M := kt_M181) 2 kX5_guard_c6.2.2.1 rfl ?_
    refine kz_iadd (M := kt_M181) kX5_guard_c6.2.2.2.1 ?_
    refine kz_cvr (M := kt_M181) (c := 4) (o := 0) (As := [.int (x1 + 2)]) (rest := [va_rf (x2)]) kX5_guard_c6.2.2.2.2.1 wl_X5_133 wMv_202 rfl (.inl rfl) rfl (Nat.le_trans (Nat.le_of_ble_eq_true rfl) hL) (Nat.le_of_ble_eq_true rfl) (by simp [kx_cat, w_cat, z_ci, z_cr, z_cl, z_cn]) h (fun v13 w12 hle h => ?_) (fun _ _ _ h => kzx_no rfl h)
    have h := h hle
    obtain ⟨p14, hxp14, hlp14, h⟩ := h
    refine kz_nz1 (x := x2) hxp14 ?_
    refine kz_pfp (M := kt_M181) (n := v13) (c := 14) (o := p14) kX5_guard_c6.2.2.2.2.2.1 wq_X5_288 (.inr (by exact hlp14)) ?_
    refine kz_aload_nv (M := kt_M181) (x := x2) kX5_guard_c6.2.2.2.2.2.2.1 rfl ?_
    exact kz_areto (x := x2) (M := kt_M181) kX5_guard_c6.2.2.2.2.2.2.2.1 rfl h
def zb_X5_guard_p80 (E : zE) (L : Nat) (Q : kx_Rs → wS → Prop) (x1 : Int32) (x2 : Option Nat) (x3 : Option Nat) (w : wS) : Prop := zw E (L - 20) kt_M213 [.ref (w_adr E.2.1 4 0)] w (wk0 (fun w1 => wle w w1 → zb_X5_guard_p84 E L Q x1 x2 x3 w1) (fun e w => Q (.inr e) w))
theorem zt_X5_guard_p80 {E : zE} {L : Nat} {Q : kx_Rs → wS → Prop} {x1 : Int32} {x2 : Option Nat} {x3 : Option Nat} {w : wS} (hL : 24 ≤ L) (h : zb_X5_guard_p80 E L Q x1 x2 x3 w) : kzE E L kt_M181 80 [(0, .ref (w_adr E.2.1 4 0)), (1, .int x1), (2, va_rf (x2)), (3, va_rf (x3))] [] w Q := by
  unfold zb_X5_guard_p80 at h
  refine kz_aload_n (M := kt_M181) kX5_guard_c4.2.2.2.2.2.2.2.1 rfl ?_
  refine kz_cv0 (M := kt_M181) (c := 4) (o := 0) (As := []) (rest := []) kX5_guard_c5.1 wl_X5_82 wMv_213 rfl (.inl rfl) rfl (Nat.le_trans (Nat.le_of_ble_eq_true rfl) hL) (Nat.le_of_ble_eq_true rfl) (Nat.le_of_ble_eq_true rfl) h (fun w1 hle h => ?_) (fun _ _ _ h => kzx_no rfl h)
  have h := h hle
  exact kz_weak [(0, .ref (w_adr E.2.1 4 0)), (1, .int x1), (2, va_rf (x2)), (3, va_rf (x3))] ⟨rfl, ⟨rfl, ⟨rfl, ⟨rfl, trivial⟩⟩⟩⟩ rfl (zt_X5_guard_p84 hL  h)
def zb_X5_guard_p59 (E : zE) (L : Nat) (Q : kx_Rs → wS → Prop) (x1 : Int32) (x2 : Option Nat) (y0 : Option Nat) (w : wS) : Prop := zb_X5_guard_p84 E L Q x1 x2 y0 w
theorem zt_X5_guard_p59 {E : zE} {L : Nat} {Q : kx_Rs → wS → Prop} {x1 : Int32} {x2 : Option Nat} {y0 : Option Nat} {w : wS} (hL : 24 ≤ L) (h : zb_X5_guard_p59 E L Q x1 x2 y0 w) : kzE E L kt_M181 59 [(0, .ref (w_adr E.2.1 4 0)), (1, .int x1), (2, va_rf (x2))] [va_rf (y0)] w Q := by
  unfold zb_X5_guard_p59 at h
  refine kz_stv_n (M := kt_M181) (x := y0) [(0, .ref (w_adr E.2.1 4 0)), (1, .int x1), (2, va_rf (x2))] kX5_guard_c3.2.2.2.2.2.2.1 (Nat.le_of_ble_eq_true rfl) ⟨⟨rfl, rfl, .inl rfl⟩, ⟨⟨rfl, rfl, .inl rfl⟩, ⟨⟨rfl, rfl, .inr (w_cat (x2))⟩, trivial⟩⟩⟩ rfl ?_
  refine kz_goto (M := kt_M181) kX5_guard_c3.2.2.2.2.2.2.2.1 (t := 84) rfl ?_
  exact kz_weak [(0, .ref (w_adr E.2.1 4 0)), (1, .int x1), (2, va_rf (x2)), (3, va_rf (y0))] ⟨rfl, ⟨rfl, ⟨rfl, ⟨rfl, trivial⟩⟩⟩⟩ rfl (zt_X5_guard_p84 hL  h)
def zb_X5_guard_p0 (E : zE) (L : Nat) (Q : kx_Rs → wS → Prop) (x1 : Int32) (w : wS) : Prop := zw E (L - 21) kt_M196 [.ref (w_adr E.2.1 4 0), va_rf (some (E.1.1 52))] w (wkr (fun v2 w1 => wle w w1 → zw E (L - 21) kt_M183 [.ref (w_adr E.2.1 4 0), .int 28] w1 (wk1 (fun v4 w3 => wle w1 w3 → (if ¬ v4 = 0 then zb_X5_guard_p84 E L Q x1 v2 none w3 else zw E (L - 22) kt_M177 [.ref (w_adr E.2.1 4 0)] w3 (wkr (fun v6 w5 => wle w3 w5 → zw E (L - 21) kt_M183 [.ref (w_adr E.2.1 4 0), .int 46] w5 (wk1 (fun v8 w7 => wle w5 w7 → (if v8 = 0 then (∃ p9, v6 = some p9 ∧ w_l w7 E.2.1 14 p9 ∧ (if ¬ w_p w7 14 p9 0 = some (E.1.1 18) then zb_X5_guard_p80 E L Q x1 v2 v6 w7 else (if w_i w7 14 p9 12 = 0 then zb_X5_guard_p84 E L Q x1 v2 v6 w7 else zb_X5_guard_p80 E L Q x1 v2 v6 w7))) else zw E (L - 20) kt_M195 [.ref (w_adr E.2.1 4 0)] w7 (wk0 (fun w10 => wle w7 w10 → (∃ p12, v2 = some p12 ∧ w_l w10 E.2.1 14 p12 ∧ zw E (L - 21) kt_M183 [.ref (w_adr E.2.1 4 0), .int 28] (ws_p w10 14 p12 5 v6) (wk1 (fun v14 w13 => wle (ws_p w10 14 p12 5 v6) w13 → (if v14 = 0 then zw E (L - 22) kt_M172 [.ref (w_adr E.2.1 4 0)] w13 (wkr (fun v16 w15 => wle w13 w15 → zb_X5_guard_p59 E L Q x1 v2 v16 w15) (fun e w => Q (.inr e) w)) else zb_X5_guard_p59 E L Q x1 v2 none w13)) (fun e w => Q (.inr e) w)))) (fun e w => Q (.inr e) w)))) (fun e w => Q (.inr e) w))) (fun e w => Q (.inr e) w)))) (fun e w => Q (.inr e) w))) (fun e w => Q (.inr e) w))
theorem zt_X5_guard_p0 {E : zE} {L : Nat} {Q : kx_Rs → wS → Prop} {x1 : Int32} {w : wS} (hL : 24 ≤ L) (h : zb_X5_guard_p0 E L Q x1 w) : kzE E L kt_M181 0 [(0, .ref (w_adr E.2.1 4 0)), (1, .int x1)] [] w Q := by
  unfold zb_X5_guard_p0 at h
  refine kz_aload_n (M := kt_M181) kX5_guard_c0.1 rfl ?_
  refine kz_getsE (M := kt_M181) (v := va_rf (some (E.1.1 52))) kX5_guard_c0.2.1 zs_X5_361 ?_
  refine kz_cvr (M := kt_M181) (c := 4) (o := 0) (As := [va_rf (some (E.1.1 52))]) (rest := []) kX5_guard_c0.2.2.1 wl_X5_152 wMv_196 rfl (.inl rfl) rfl (Nat.le_trans (Nat.le_of_ble_eq_true rfl) hL) (by simp [lg_sl, w_cat, z_ci, z_cr, z_cl, z_cn, kt_M196]) (Nat.le_of_ble_eq_true rfl) h (fun v2 w1 hle h => ?_) (fun _ _ _ h => kzx_no rfl h)
  have h := h hle
  refine kz_stv_n (M := kt_M181) (x := v2) [(0, .ref (w_adr E.2.1 4 0)), (1, .int x1)] kX5_guard_c0.2.2.2.1 (Nat.le_of_ble_eq_true rfl) ⟨⟨rfl, rfl, .inl rfl⟩, ⟨⟨rfl, rfl, .inr rfl⟩, trivial⟩⟩ rfl ?_
  refine kz_null (M := kt_M181) kX5_guard_c0.2.2.2.2.1 ?_
  refine kz_stv_n (M := kt_M181) (x := none) [(0, .ref (w_adr E.2.1 4 0)), (1, .int x1), (2, va_rf (v2))] kX5_guard_c0.2.2.2.2.2.1 (Nat.le_of_ble_eq_true rfl) ⟨⟨rfl, rfl, .inl rfl⟩, ⟨⟨rfl, rfl, .inl rfl⟩, ⟨⟨rfl, rfl, .inr (w_cat (v2))⟩, trivial⟩⟩⟩ rfl ?_
  refine kz_aload_n (M := kt_M181) kX5_guard_c0.2.2.2.2.2.2.1 rfl ?_
  refine kz_bi (M := kt_M181) 28 kX5_guard_c0.2.2.2.2.2.2.2.1 rfl ?_
  refine kz_cv1 (M := kt_M181) (c := 4) (o := 0) (As := [.int 28]) (rest := []) kX5_guard_c1.1 wl_X5_79 wMv_183 rfl (.inl rfl) rfl (Nat.le_trans (Nat.le_of_ble_eq_true rfl) hL) (Nat.le_of_ble_eq_true rfl) (Nat.le_of_ble_eq_true rfl) h (fun v4 w3 hle h => ?_) (fun _ _ _ h => kzx_no rfl h)
  have h := h hle
  refine kz_if_ne (M := kt_M181) kX5_guard_c1.2.1 (t := 84) rfl h (fun h => ?_) (fun h => ?_)
  · skip
    exact kz_weak [(0, .ref (w_adr E.2.1 4 0)), (1, .int x1), (2, va_rf (v2)), (3, va_rf (none))] ⟨rfl, ⟨rfl, ⟨rfl, ⟨rfl, trivial⟩⟩⟩⟩ rfl (zt_X5_guard_p84 hL  h)
  · skip
    refine kz_aload_n (M := kt_M181) kX5_guard_c1.2.2.1 rfl ?_
    refine kz_cvr (M := kt_M181) (c := 4) (o := 0) (As := []) (rest := []) kX5_guard_c1.2.2.2.1 wl_X5_194 wMv_177 rfl (.inl rfl) rfl (Nat.le_trans (Nat.le_of_ble_eq_true rfl) hL) (Nat.le_of_ble_eq_true rfl) (Nat.le_of_ble_eq_true rfl) h (fun v6 w5 hle h => ?_) (fun _ _ _ h => kzx_no rfl h)
    have h := h hle
    refine kz_stv_n (M := kt_M181) (x := v6) [(0, .ref (w_adr E.2.1 4 0)), (1, .int x1), (2, va_rf (v2))] kX5_guard_c1.2.2.2.2.1 (Nat.le_of_ble_eq_true rfl) ⟨⟨rfl, rfl, .inl rfl⟩, ⟨⟨rfl, rfl, .inl rfl⟩, ⟨⟨rfl, rfl, .inr (w_cat (v2))⟩, trivial⟩⟩⟩ rfl ?_
    refine kz_aload_n (M := kt_M181) kX5_guard_c1.2.2.2.2.2.1 rfl ?_
    refine kz_bi (M := kt_M181) 46 kX5_guard_c1.2.2.2.2.2.2.1 rfl ?_
    refine kz_cv1 (M := kt_M181) (c := 4) (o := 0) (As := [.int 46]) (rest := []) kX5_guard_c1.2.2.2.2.2.2.2.1 wl_X5_79 wMv_183 rfl (.inl rfl) rfl (Nat.le_trans (Nat.le_of_ble_eq_true rfl) hL) (Nat.le_of_ble_eq_true rfl) (Nat.le_of_ble_eq_true rfl) h (fun v8 w7 hle h => ?_) (fun _ _ _ h => kzx_no rfl h)
    have h := h hle
    refine kz_if_eq (M := kt_M181) kX5_guard_c2.1 (t := 63) rfl h (fun h => ?_) (fun h => ?_)
    · skip
      refine kz_aload_nv (M := kt_M181) (x := v6) kX5_guard_c4.1 rfl ?_
      obtain ⟨p9, hxp9, hlp9, h⟩ := h
      refine kz_nz0 (x := v6) hxp9 ?_
      refine kz_gfp (M := kt_M181) (c := 14) (o := p9) kX5_guard_c4.2.1 wf_X5_214 (.inr (by exact hlp9)) ?_
      refine kz_getsE (M := kt_M181) (v := va_rf (some (E.1.1 18))) kX5_guard_c4.2.2.1 zs_X5_364 ?_
      refine kz_acmp_ne (M := kt_M181) (x := w_p w7 14 p9 0) (y := some (E.1.1 18)) kX5_guard_c4.2.2.2.1 (t := 80) rfl h (fun h => ?_) (fun h => ?_)
      · skip
        exact kz_weak [(0, .ref (w_adr E.2.1 4 0)), (1, .int x1), (2, va_rf (v2)), (3, va_rf (v6))] ⟨rfl, ⟨rfl, ⟨rfl, ⟨rfl, trivial⟩⟩⟩⟩ rfl (zt_X5_guard_p80 hL  h)
      · skip
        refine kz_aload_nv (M := kt_M181) (x := v6) kX5_guard_c4.2.2.2.2.1 rfl ?_
        refine kz_nz0 (x := v6) hxp9 ?_
        refine kz_gfi (M := kt_M181) (c := 14) (o := p9) kX5_guard_c4.2.2.2.2.2.1 wf_X5_367 (.inr (by exact hlp9)) ?_
        refine kz_if_eq (M := kt_M181) kX5_guard_c4.2.2.2.2.2.2.1 (t := 84) rfl h (fun h => ?_) (fun h => ?_)
        · skip
          exact kz_weak [(0, .ref (w_adr E.2.1 4 0)), (1, .int x1), (2, va_rf (v2)), (3, va_rf (v6))] ⟨rfl, ⟨rfl, ⟨rfl, ⟨rfl, trivial⟩⟩⟩⟩ rfl (zt_X5_guard_p84 hL  h)
        · skip
          exact kz_weak [(0, .ref (w_adr E.2.1 4 0)), (1, .int x1), (2, va_rf (v2)), (3, va_rf (v6))] ⟨rfl, ⟨rfl, ⟨rfl, ⟨rfl, trivial⟩⟩⟩⟩ rfl (zt_X5_guard_p80 hL  h)
    · skip
      refine kz_aload_n (M := kt_M181) kX5_guard_c2.2.1 rfl ?_
      refine kz_cv0 (M := kt_M181) (c := 4) (o := 0) (As := []) (rest := []) kX5_guard_c2.2.2.1 wl_X5_85 wMv_195 rfl (.inl rfl) rfl (Nat.le_trans (Nat.le_of_ble_eq_true rfl) hL) (Nat.le_of_ble_eq_true rfl) (Nat.le_of_ble_eq_true rfl) h (fun w10 hle h => ?_) (fun _ _ _ h => kzx_no rfl h)
      have h := h hle
      refine kz_aload_nv (M := kt_M181) (x := v2) kX5_guard_c2.2.2.2.1 rfl ?_
      refine kz_aload_nv (M := kt_M181) (x := v6) kX5_guard_c2.2.2.2.2.1 rfl ?_
      obtain ⟨p12, hxp12, hlp12, h⟩ := h
      refine kz_nz1 (x := v2) hxp12 ?_
      refine kz_pfp (M := kt_M181) (n := v6) (c := 14) (o := p12) kX5_guard_c2.2.2.2.2.2.1 wq_X5_234 (.inr (by exact hlp12)) ?_
      refine kz_aload_n (M := kt_M181) kX5_guard_c2.2.2.2.2.2.2.1 rfl ?_
      refine kz_bi (M := kt_M181) 28 kX5_guard_c2.2.2.2.2.2.2.2.1 rfl ?_
      refine kz_cv1 (M := kt_M181) (c := 4) (o := 0) (As := [.int 28]) (rest := []) kX5_guard_c3.1 wl_X5_79 wMv_183 rfl (.inl rfl) rfl (Nat.le_trans (Nat.le_of_ble_eq_true rfl) hL) (Nat.le_of_ble_eq_true rfl) (Nat.le_of_ble_eq_true rfl) h (fun v14 w13 hle h => ?_) (fun _ _ _ h => kzx_no rfl h)
      have h := h hle
      have hlp12 := w_l_le hlp12 hle
      refine kz_if_eq (M := kt_M181) kX5_guard_c3.2.1 (t := 55) rfl h (fun h => ?_) (fun h => ?_)
      · skip
        refine kz_aload_n (M := kt_M181) kX5_guard_c3.2.2.2.2.1 rfl ?_
        refine kz_cvr (M := kt_M181) (c := 4) (o := 0) (As := []) (rest := []) kX5_guard_c3.2.2.2.2.2.1 wl_X5_249 wMv_172 rfl (.inl rfl) rfl (Nat.le_trans (Nat.le_of_ble_eq_true rfl) hL) (Nat.le_of_ble_eq_true rfl) (Nat.le_of_ble_eq_true rfl) h (fun v16 w15 hle h => ?_) (fun _ _ _ h => kzx_no rfl h)
        have h := h hle
        have hlp12 := w_l_le hlp12 hle
        exact kz_weak [(0, .ref (w_adr E.2.1 4 0)), (1, .int x1), (2, va_rf (v2))] ⟨rfl, ⟨rfl, ⟨rfl, trivial⟩⟩⟩ rfl (zt_X5_guard_p59 hL  h)
      · skip
        refine kz_null (M := kt_M181) kX5_guard_c3.2.2.1 ?_
        refine kz_goto (M := kt_M181) kX5_guard_c3.2.2.2.1 (t := 59) rfl ?_
        exact kz_weak [(0, .ref (w_adr E.2.1 4 0)), (1, .int x1), (2, va_rf (v2))] ⟨rfl, ⟨rfl, ⟨rfl, trivial⟩⟩⟩ rfl (zt_X5_guard_p59 hL  h)
