/-! ===== methods over the typed state (printed by tools/gen_lift.py) ===== -/
set_option maxRecDepth 100000
theorem zk_X13_808 {E : zE} : kx_ci (zV E) "MeetingHouseModel" 808 = none ∧ kx_rv (zV E) "MeetingHouseModel" 808 = some (E.1.2.1 66) := ⟨(show kt_get kt_ciA "MeetingHouseModel" 808 = none from by decide +kernel), kx_rv_E.trans (kw_rv_at (by decide +kernel))⟩
theorem zk_X13_814 {E : zE} : kx_ci (zV E) "MeetingHouseModel" 814 = none ∧ kx_rv (zV E) "MeetingHouseModel" 814 = some (E.1.2.1 67) := ⟨(show kt_get kt_ciA "MeetingHouseModel" 814 = none from by decide +kernel), kx_rv_E.trans (kw_rv_at (by decide +kernel))⟩
def zb_X13_names_p0 (E : zE) (L : Nat) (Q : kx_Rs → wS → Prop) (w : wS) : Prop := (kx_inb 0 (w_n w 12 0 61) = true ∧ (kx_inb 0 (w_n w 12 0 60) = true ∧ zw E (L - 24) kt_M603 [.ref (w_adr E.2.1 12 0), va_rf (some (E.1.2.1 66))] (ws_i (ws_a (ws_a (ws_i (ws_i (ws_i (ws_i w 12 0 44 0) 12 0 56 0) 12 0 58 0) 12 0 59 1) 12 0 61 (0 : Int32).toNatClampNeg 0) 12 0 60 (0 : Int32).toNatClampNeg (-1)) 12 0 62 0) (wk1 (fun v2 w1 => wle (ws_i (ws_a (ws_a (ws_i (ws_i (ws_i (ws_i w 12 0 44 0) 12 0 56 0) 12 0 58 0) 12 0 59 1) 12 0 61 (0 : Int32).toNatClampNeg 0) 12 0 60 (0 : Int32).toNatClampNeg (-1)) 12 0 62 0) w1 → zw E (L - 28) kt_M550 [.ref (w_adr E.2.1 12 0), .int v2, .int 3, .int 1, .int (-1), .int (-1), .int 0] w1 (wk1 (fun v4 w3 => wle w1 w3 → zw E (L - 21) kt_M455 [.ref (w_adr E.2.1 12 0), .int v4] w3 (wk0 (fun w5 => wle w3 w5 → zw E (L - 24) kt_M603 [.ref (w_adr E.2.1 12 0), va_rf (some (E.1.2.1 67))] w5 (wk1 (fun v8 w7 => wle w5 w7 → zw E (L - 28) kt_M550 [.ref (w_adr E.2.1 12 0), .int v8, .int 3, .int 0, .int (-1), .int (-1), .int 0] w7 (wk1 (fun v10 w9 => wle w7 w9 → zw E (L - 21) kt_M455 [.ref (w_adr E.2.1 12 0), .int v10] w9 (wk0 (fun w11 => wle w9 w11 → zw E (L - 22) kt_M473 [.ref (w_adr E.2.1 12 0), .int (w_i w11 12 0 43)] w11 (wk0 (fun w13 => wle w11 w13 → Q (.inl none) w13) (fun e w => Q (.inr e) w))) (fun e w => Q (.inr e) w))) (fun e w => Q (.inr e) w))) (fun e w => Q (.inr e) w))) (fun e w => Q (.inr e) w))) (fun e w => Q (.inr e) w))) (fun e w => Q (.inr e) w))))
theorem zt_X13_names_p0 {E : zE} {L : Nat} {Q : kx_Rs → wS → Prop} {w : wS} (hL : 28 ≤ L) (h : zb_X13_names_p0 E L Q  w) : kzE E L kt_M487 0 [(0, .ref (w_adr E.2.1 12 0))] [] w Q := by
  unfold zb_X13_names_p0 at h
  refine kz_aload_n (M := kt_M487) kX13_names_c0.1 rfl ?_
  refine kz_ic (M := kt_M487) 0 kX13_names_c0.2.1 rfl ?_
  refine kz_pfi (M := kt_M487) (c := 12) (o := 0) kX13_names_c0.2.2.1 wq_X13_722 (.inl rfl) ?_
  refine kz_aload_n (M := kt_M487) kX13_names_c0.2.2.2.1 rfl ?_
  refine kz_ic (M := kt_M487) 0 kX13_names_c0.2.2.2.2.1 rfl ?_
  refine kz_pfi (M := kt_M487) (c := 12) (o := 0) kX13_names_c0.2.2.2.2.2.1 wq_X13_728 (.inl rfl) ?_
  refine kz_aload_n (M := kt_M487) kX13_names_c0.2.2.2.2.2.2.1 rfl ?_
  refine kz_ic (M := kt_M487) 0 kX13_names_c0.2.2.2.2.2.2.2.1 rfl ?_
  refine kz_pfi (M := kt_M487) (c := 12) (o := 0) kX13_names_c1.1 wq_X13_793 (.inl rfl) ?_
  refine kz_aload_n (M := kt_M487) kX13_names_c1.2.1 rfl ?_
  refine kz_ic (M := kt_M487) 1 kX13_names_c1.2.2.1 rfl ?_
  refine kz_pfi (M := kt_M487) (c := 12) (o := 0) kX13_names_c1.2.2.2.1 wq_X13_737 (.inl rfl) ?_
  refine kz_aload_n (M := kt_M487) kX13_names_c1.2.2.2.2.1 rfl ?_
  refine kz_gfc (M := kt_M487) (x := 4133) (c := 12) (o := 0) kX13_names_c1.2.2.2.2.2.1 wf_X13_260 (.inl rfl) ?_
  refine kz_ic (M := kt_M487) 0 kX13_names_c1.2.2.2.2.2.2.1 rfl ?_
  refine kz_ic (M := kt_M487) 0 kX13_names_c1.2.2.2.2.2.2.2.1 rfl ?_
  refine kz_iastR (M := kt_M487) (n := w_n w 12 0 61) (c := 12) (o := 0) (k := 61) (a := (E.2.1 4133)) kX13_names_c2.1 ow_12_0_61 oa_12_0_61 ot_0 (rd_n_i.trans (rd_n_i.trans (rd_n_i.trans rd_n_i))) h (fun h => ?_)
  refine kz_aload_n (M := kt_M487) kX13_names_c2.2.1 rfl ?_
  refine kz_gfc (M := kt_M487) (x := 4132) (c := 12) (o := 0) kX13_names_c2.2.2.1 wf_X13_257 (.inl rfl) ?_
  refine kz_ic (M := kt_M487) 0 kX13_names_c2.2.2.2.1 rfl ?_
  refine kz_ic (M := kt_M487) (-1) kX13_names_c2.2.2.2.2.1 rfl ?_
  refine kz_iastR (M := kt_M487) (n := w_n w 12 0 60) (c := 12) (o := 0) (k := 60) (a := (E.2.1 4132)) kX13_names_c2.2.2.2.2.2.1 ow_12_0_60 oa_12_0_60 ot_0 (rd_n_a.trans (rd_n_i.trans (rd_n_i.trans (rd_n_i.trans rd_n_i)))) h (fun h => ?_)
  refine kz_aload_n (M := kt_M487) kX13_names_c2.2.2.2.2.2.2.1 rfl ?_
  refine kz_ic (M := kt_M487) 0 kX13_names_c2.2.2.2.2.2.2.2.1 rfl ?_
  refine kz_pfi (M := kt_M487) (c := 12) (o := 0) kX13_names_c3.1 wq_X13_725 (.inl rfl) ?_
  refine kz_aload_n (M := kt_M487) kX13_names_c3.2.1 rfl ?_
  refine kz_aload_n (M := kt_M487) kX13_names_c3.2.2.1 rfl ?_
  refine kz_ldcSW (M := kt_M487) kX13_names_c3.2.2.2.1 zk_X13_808 ?_
  refine kz_cv1 (M := kt_M487) (c := 12) (o := 0) (As := [va_rf (some (E.1.2.1 66))]) (rest := [.ref (w_adr E.2.1 12 0)]) kX13_names_c3.2.2.2.2.1 wl_X13_810 wMv_603 rfl (.inl rfl) rfl (Nat.le_trans (Nat.le_of_ble_eq_true rfl) hL) (by simp [lg_sl, w_cat, z_ci, z_cr, z_cl, z_cn, kt_M603]) (Nat.le_of_ble_eq_true rfl) h (fun v2 w1 hle h => ?_) (fun _ _ _ h => kzx_no rfl h)
  have h := h hle
  refine kz_ic (M := kt_M487) 3 kX13_names_c3.2.2.2.2.2.1 rfl ?_
  refine kz_ic (M := kt_M487) 1 kX13_names_c3.2.2.2.2.2.2.1 rfl ?_
  refine kz_ic (M := kt_M487) (-1) kX13_names_c3.2.2.2.2.2.2.2.1 rfl ?_
  refine kz_ic (M := kt_M487) (-1) kX13_names_c4.1 rfl ?_
  refine kz_ic (M := kt_M487) 0 kX13_names_c4.2.1 rfl ?_
  refine kz_cv1 (M := kt_M487) (c := 12) (o := 0) (As := [.int v2, .int 3, .int 1, .int (-1), .int (-1), .int 0]) (rest := []) kX13_names_c4.2.2.1 wl_X13_759 wMv_550 rfl (.inl rfl) rfl (Nat.le_trans (Nat.le_of_ble_eq_true rfl) hL) (Nat.le_of_ble_eq_true rfl) (Nat.le_of_ble_eq_true rfl) h (fun v4 w3 hle h => ?_) (fun _ _ _ h => kzx_no rfl h)
  have h := h hle
  refine kz_sti_n (M := kt_M487) [(0, .ref (w_adr E.2.1 12 0))] kX13_names_c4.2.2.2.1 (Nat.le_of_ble_eq_true rfl) ⟨⟨rfl, rfl, .inr rfl⟩, trivial⟩ rfl ?_
  refine kz_aload_n (M := kt_M487) kX13_names_c4.2.2.2.2.1 rfl ?_
  refine kz_iload_n (M := kt_M487) kX13_names_c4.2.2.2.2.2.1 rfl ?_
  refine kz_cv0 (M := kt_M487) (c := 12) (o := 0) (As := [.int v4]) (rest := []) kX13_names_c4.2.2.2.2.2.2.1 wl_X13_763 wMv_455 rfl (.inl rfl) rfl (Nat.le_trans (Nat.le_of_ble_eq_true rfl) hL) (Nat.le_of_ble_eq_true rfl) (Nat.le_of_ble_eq_true rfl) h (fun w5 hle h => ?_) (fun _ _ _ h => kzx_no rfl h)
  have h := h hle
  refine kz_aload_n (M := kt_M487) kX13_names_c4.2.2.2.2.2.2.2.1 rfl ?_
  refine kz_aload_n (M := kt_M487) kX13_names_c5.1 rfl ?_
  refine kz_ldcSW (M := kt_M487) kX13_names_c5.2.1 zk_X13_814 ?_
  refine kz_cv1 (M := kt_M487) (c := 12) (o := 0) (As := [va_rf (some (E.1.2.1 67))]) (rest := [.ref (w_adr E.2.1 12 0)]) kX13_names_c5.2.2.1 wl_X13_810 wMv_603 rfl (.inl rfl) rfl (Nat.le_trans (Nat.le_of_ble_eq_true rfl) hL) (by simp [lg_sl, w_cat, z_ci, z_cr, z_cl, z_cn, kt_M603]) (Nat.le_of_ble_eq_true rfl) h (fun v8 w7 hle h => ?_) (fun _ _ _ h => kzx_no rfl h)
  have h := h hle
  refine kz_ic (M := kt_M487) 3 kX13_names_c5.2.2.2.1 rfl ?_
  refine kz_ic (M := kt_M487) 0 kX13_names_c5.2.2.2.2.1 rfl ?_
  refine kz_ic (M := kt_M487) (-1) kX13_names_c5.2.2.2.2.2.1 rfl ?_
  refine kz_ic (M := kt_M487) (-1) kX13_names_c5.2.2.2.2.2.2.1 rfl ?_
  refine kz_ic (M := kt_M487) 0 kX13_names_c5.2.2.2.2.2.2.2.1 rfl ?_
  refine kz_cv1 (M := kt_M487) (c := 12) (o := 0) (As := [.int v8, .int 3, .int 0, .int (-1), .int (-1), .int 0]) (rest := []) kX13_names_c6.1 wl_X13_759 wMv_550 rfl (.inl rfl) rfl (Nat.le_trans (Nat.le_of_ble_eq_true rfl) hL) (Nat.le_of_ble_eq_true rfl) (Nat.le_of_ble_eq_true rfl) h (fun v10 w9 hle h => ?_) (fun _ _ _ h => kzx_no rfl h)
  have h := h hle
  refine kz_sti_n (M := kt_M487) [(0, .ref (w_adr E.2.1 12 0))] kX13_names_c6.2.1 (Nat.le_of_ble_eq_true rfl) ⟨⟨rfl, rfl, .inr rfl⟩, trivial⟩ rfl ?_
  refine kz_aload_n (M := kt_M487) kX13_names_c6.2.2.1 rfl ?_
  refine kz_iload_n (M := kt_M487) kX13_names_c6.2.2.2.1 rfl ?_
  refine kz_cv0 (M := kt_M487) (c := 12) (o := 0) (As := [.int v10]) (rest := []) kX13_names_c6.2.2.2.2.1 wl_X13_763 wMv_455 rfl (.inl rfl) rfl (Nat.le_trans (Nat.le_of_ble_eq_true rfl) hL) (Nat.le_of_ble_eq_true rfl) (Nat.le_of_ble_eq_true rfl) h (fun w11 hle h => ?_) (fun _ _ _ h => kzx_no rfl h)
  have h := h hle
  refine kz_aload_n (M := kt_M487) kX13_names_c6.2.2.2.2.2.1 rfl ?_
  refine kz_aload_n (M := kt_M487) kX13_names_c6.2.2.2.2.2.2.1 rfl ?_
  refine kz_gfi (M := kt_M487) (c := 12) (o := 0) kX13_names_c6.2.2.2.2.2.2.2.1 wf_X13_713 (.inl rfl) ?_
  refine kz_cv0 (M := kt_M487) (c := 12) (o := 0) (As := [.int (w_i w11 12 0 43)]) (rest := []) kX13_names_c7.1 wl_X13_772 wMv_473 rfl (.inl rfl) rfl (Nat.le_trans (Nat.le_of_ble_eq_true rfl) hL) (Nat.le_of_ble_eq_true rfl) (Nat.le_of_ble_eq_true rfl) h (fun w13 hle h => ?_) (fun _ _ _ h => kzx_no rfl h)
  have h := h hle
  exact kz_ret (M := kt_M487) kX13_names_c7.2.1 rfl h
