/-! ===== methods over the typed state (printed by tools/gen_lift.py) ===== -/
set_option maxRecDepth 100000
def zb_X13_pop_p0 (E : zE) (L : Nat) (Q : kx_Rs → wS → Prop) (w : wS) : Prop := zw E (L - 22) kt_M403 [.ref (w_adr E.2.1 12 0), .int (w_i w 12 0 163), .int 4] w (wk1 (fun v2 w1 => wle w w1 → zw E (L - 23) kt_M402 [.ref (w_adr E.2.1 12 0), .int (w_i w 12 0 163), .int 4, .int (w_i w1 12 0 167)] (ws_i w1 12 0 163 v2) (wk0 (fun w3 => wle (ws_i w1 12 0 163 v2) w3 → Q (.inl none) (ws_i w3 12 0 167 (w_i w 12 0 163))) (fun e w => Q (.inr e) w))) (fun e w => Q (.inr e) w))
theorem zt_X13_pop_p0 {E : zE} {L : Nat} {Q : kx_Rs → wS → Prop} {w : wS} (hL : 23 ≤ L) (h : zb_X13_pop_p0 E L Q  w) : kzE E L kt_M511 0 [(0, .ref (w_adr E.2.1 12 0))] [] w Q := by
  unfold zb_X13_pop_p0 at h
  refine kz_aload_n (M := kt_M511) kX13_pop_c0.1 rfl ?_
  refine kz_gfi (M := kt_M511) (c := 12) (o := 0) kX13_pop_c0.2.1 wf_X13_1165 (.inl rfl) ?_
  refine kz_sti_n (M := kt_M511) [(0, .ref (w_adr E.2.1 12 0))] kX13_pop_c0.2.2.1 (Nat.le_of_ble_eq_true rfl) ⟨⟨rfl, rfl, .inr rfl⟩, trivial⟩ rfl ?_
  refine kz_aload_n (M := kt_M511) kX13_pop_c0.2.2.2.1 rfl ?_
  refine kz_aload_n (M := kt_M511) kX13_pop_c0.2.2.2.2.1 rfl ?_
  refine kz_iload_n (M := kt_M511) kX13_pop_c0.2.2.2.2.2.1 rfl ?_
  refine kz_ic (M := kt_M511) 4 kX13_pop_c0.2.2.2.2.2.2.1 rfl ?_
  refine kz_cv1 (M := kt_M511) (c := 12) (o := 0) (As := [.int (w_i w 12 0 163), .int 4]) (rest := [.ref (w_adr E.2.1 12 0)]) kX13_pop_c0.2.2.2.2.2.2.2.1 wl_X13_1155 wMv_403 rfl (.inl rfl) rfl (Nat.le_trans (Nat.le_of_ble_eq_true rfl) hL) (Nat.le_of_ble_eq_true rfl) (Nat.le_of_ble_eq_true rfl) h (fun v2 w1 hle h => ?_) (fun _ _ _ h => kzx_no rfl h)
  have h := h hle
  refine kz_pfi (M := kt_M511) (c := 12) (o := 0) kX13_pop_c1.1 wq_X13_1165 (.inl rfl) ?_
  refine kz_aload_n (M := kt_M511) kX13_pop_c1.2.1 rfl ?_
  refine kz_iload_n (M := kt_M511) kX13_pop_c1.2.2.1 rfl ?_
  refine kz_ic (M := kt_M511) 4 kX13_pop_c1.2.2.2.1 rfl ?_
  refine kz_aload_n (M := kt_M511) kX13_pop_c1.2.2.2.2.1 rfl ?_
  refine kz_gfiR (M := kt_M511) (c := 12) (o := 0) (w_i w1 12 0 167) kX13_pop_c1.2.2.2.2.2.1 wf_X13_1152 (.inl rfl) (rd_i_i rfl) ?_
  refine kz_cv0 (M := kt_M511) (c := 12) (o := 0) (As := [.int (w_i w 12 0 163), .int 4, .int (w_i w1 12 0 167)]) (rest := []) kX13_pop_c1.2.2.2.2.2.2.1 wl_X13_1162 wMv_402 rfl (.inl rfl) rfl (Nat.le_trans (Nat.le_of_ble_eq_true rfl) hL) (Nat.le_of_ble_eq_true rfl) (Nat.le_of_ble_eq_true rfl) h (fun w3 hle h => ?_) (fun _ _ _ h => kzx_no rfl h)
  have h := h hle
  refine kz_aload_n (M := kt_M511) kX13_pop_c1.2.2.2.2.2.2.2.1 rfl ?_
  refine kz_iload_n (M := kt_M511) kX13_pop_c2.1 rfl ?_
  refine kz_pfi (M := kt_M511) (c := 12) (o := 0) kX13_pop_c2.2.1 wq_X13_1152 (.inl rfl) ?_
  exact kz_ret (M := kt_M511) kX13_pop_c2.2.2.1 rfl h
def zL_X13_declarations_p2 (E : zE) (L : Nat) (Q : kx_Rs → wS → Prop) (x2 : Int32) (w : wS) : Prop := kzE E L kt_M384 2 [(0, .ref (w_adr E.2.1 12 0)), (2, .int x2)] [] w Q
def zb_X13_declarations_p23 (E : zE) (L : Nat) (Q : kx_Rs → wS → Prop) (x2 : Int32) (w : wS) : Prop := zw E (L - 26) kt_M385 [.ref (w_adr E.2.1 12 0), .int x2] w (wk0 (fun w1 => wle w w1 → zw E (L - 21) kt_M392 [.ref (w_adr E.2.1 12 0), .int (w_i w 12 0 170)] w1 (wk0 (fun w3 => wle w1 w3 → (kx_inb x2 (w_n w3 12 0 32) = true ∧ zL_X13_declarations_p2 E L Q (w_a w3 12 0 32 (x2).toNatClampNeg) w3)) (fun e w => Q (.inr e) w))) (fun e w => Q (.inr e) w))
theorem zt_X13_declarations_p23 {E : zE} {L : Nat} {Q : kx_Rs → wS → Prop} {x2 : Int32} {w : wS} (hL : 26 ≤ L) (h : zb_X13_declarations_p23 E L Q x2 w) : kzE E L kt_M384 23 [(0, .ref (w_adr E.2.1 12 0)), (2, .int x2)] [] w Q := by
  unfold zb_X13_declarations_p23 at h
  refine kz_aload_n (M := kt_M384) kX13_declarations_c1.2.2.2.2.2.1 rfl ?_
  refine kz_gfi (M := kt_M384) (c := 12) (o := 0) kX13_declarations_c1.2.2.2.2.2.2.1 wf_X13_1201 (.inl rfl) ?_
  refine kz_sti_n (M := kt_M384) [(0, .ref (w_adr E.2.1 12 0)), (2, .int x2)] kX13_declarations_c1.2.2.2.2.2.2.2.1 (Nat.le_of_ble_eq_true rfl) ⟨⟨rfl, rfl, .inl rfl⟩, ⟨⟨rfl, rfl, .inr rfl⟩, trivial⟩⟩ rfl ?_
  refine kz_aload_n (M := kt_M384) kX13_declarations_c2.1 rfl ?_
  refine kz_iload_n (M := kt_M384) kX13_declarations_c2.2.1 rfl ?_
  refine kz_cv0 (M := kt_M384) (c := 12) (o := 0) (As := [.int x2]) (rest := []) kX13_declarations_c2.2.2.1 wl_X13_1304 wMv_385 rfl (.inl rfl) rfl (Nat.le_trans (Nat.le_of_ble_eq_true rfl) hL) (Nat.le_of_ble_eq_true rfl) (Nat.le_of_ble_eq_true rfl) h (fun w1 hle h => ?_) (fun _ _ _ h => kzx_no rfl h)
  have h := h hle
  refine kz_aload_n (M := kt_M384) kX13_declarations_c2.2.2.2.1 rfl ?_
  refine kz_iload_n (M := kt_M384) kX13_declarations_c2.2.2.2.2.1 rfl ?_
  refine kz_cv0 (M := kt_M384) (c := 12) (o := 0) (As := [.int (w_i w 12 0 170)]) (rest := []) kX13_declarations_c2.2.2.2.2.2.1 wl_X13_1287 wMv_392 rfl (.inl rfl) rfl (Nat.le_trans (Nat.le_of_ble_eq_true rfl) hL) (Nat.le_of_ble_eq_true rfl) (Nat.le_of_ble_eq_true rfl) h (fun w3 hle h => ?_) (fun _ _ _ h => kzx_no rfl h)
  have h := h hle
  refine kz_aload_n (M := kt_M384) kX13_declarations_c2.2.2.2.2.2.2.1 rfl ?_
  refine kz_gfc (M := kt_M384) (x := 4104) (c := 12) (o := 0) kX13_declarations_c2.2.2.2.2.2.2.2.1 wf_X13_205 (.inl rfl) ?_
  refine kz_iload_n (M := kt_M384) kX13_declarations_c3.1 rfl ?_
  refine kz_iald (M := kt_M384) (c := 12) (o := 0) (k := 32) (a := (E.2.1 4104)) kX13_declarations_c3.2.1 ow_12_0_32 oa_12_0_32 ot_0 h (fun h => ?_)
  refine kz_sti_n (M := kt_M384) [(0, .ref (w_adr E.2.1 12 0))] kX13_declarations_c3.2.2.1 (Nat.le_of_ble_eq_true rfl) ⟨⟨rfl, rfl, .inl rfl⟩, trivial⟩ rfl ?_
  refine kz_goto (M := kt_M384) kX13_declarations_c3.2.2.2.1 (t := 2) rfl ?_
  exact kz_weak [(0, .ref (w_adr E.2.1 12 0)), (2, .int (w_a w3 12 0 32 (x2).toNatClampNeg))] ⟨rfl, ⟨rfl, trivial⟩⟩ rfl h
def zb_X13_declarations_p2 (E : zE) (L : Nat) (Q : kx_Rs → wS → Prop) (x2 : Int32) (w : wS) : Prop := (if x2 < 0 then Q (.inl none) w else (if ¬ w_i w 12 0 134 = 0 then zb_X13_declarations_p23 E L Q x2 w else (kx_inb x2 (w_n w 12 0 27) = true ∧ zb_X13_declarations_p23 E L Q x2 (ws_i w 12 0 164 (w_a w 12 0 27 (x2).toNatClampNeg)))))
theorem zt_X13_declarations_p2 {E : zE} {L : Nat} {Q : kx_Rs → wS → Prop} {x2 : Int32} {w : wS} (hL : 26 ≤ L) (h : zb_X13_declarations_p2 E L Q x2 w) : kzE E L kt_M384 2 [(0, .ref (w_adr E.2.1 12 0)), (2, .int x2)] [] w Q := by
  unfold zb_X13_declarations_p2 at h
  refine kz_iload_n (M := kt_M384) kX13_declarations_c0.2.2.1 rfl ?_
  refine kz_if_lt (M := kt_M384) kX13_declarations_c0.2.2.2.1 (t := 48) rfl h (fun h => ?_) (fun h => ?_)
  · skip
    exact kz_ret (M := kt_M384) kX13_declarations_c3.2.2.2.2.1 rfl h
  · skip
    refine kz_aload_n (M := kt_M384) kX13_declarations_c0.2.2.2.2.1 rfl ?_
    refine kz_gfi (M := kt_M384) (c := 12) (o := 0) kX13_declarations_c0.2.2.2.2.2.1 wf_X13_1272 (.inl rfl) ?_
    refine kz_if_ne (M := kt_M384) kX13_declarations_c0.2.2.2.2.2.2.1 (t := 23) rfl h (fun h => ?_) (fun h => ?_)
    · skip
      exact kz_weak [(0, .ref (w_adr E.2.1 12 0)), (2, .int x2)] ⟨rfl, ⟨rfl, trivial⟩⟩ rfl (zt_X13_declarations_p23 hL  h)
    · skip
      refine kz_aload_n (M := kt_M384) kX13_declarations_c0.2.2.2.2.2.2.2.1 rfl ?_
      refine kz_aload_n (M := kt_M384) kX13_declarations_c1.1 rfl ?_
      refine kz_gfc (M := kt_M384) (x := 4099) (c := 12) (o := 0) kX13_declarations_c1.2.1 wf_X13_190 (.inl rfl) ?_
      refine kz_iload_n (M := kt_M384) kX13_declarations_c1.2.2.1 rfl ?_
      refine kz_iald (M := kt_M384) (c := 12) (o := 0) (k := 27) (a := (E.2.1 4099)) kX13_declarations_c1.2.2.2.1 ow_12_0_27 oa_12_0_27 ot_0 h (fun h => ?_)
      refine kz_pfi (M := kt_M384) (c := 12) (o := 0) kX13_declarations_c1.2.2.2.2.1 wq_X13_1302 (.inl rfl) ?_
      exact kz_weak [(0, .ref (w_adr E.2.1 12 0)), (2, .int x2)] ⟨rfl, ⟨rfl, trivial⟩⟩ rfl (zt_X13_declarations_p23 hL  h)
def zb_X13_declarations_p0 (E : zE) (L : Nat) (Q : kx_Rs → wS → Prop) (x1 : Int32) (w : wS) : Prop := zL_X13_declarations_p2 E L Q x1 w
theorem zt_X13_declarations_p0 {E : zE} {L : Nat} {Q : kx_Rs → wS → Prop} {x1 : Int32} {w : wS} (hL : 26 ≤ L) (h : zb_X13_declarations_p0 E L Q x1 w) : kzE E L kt_M384 0 [(0, .ref (w_adr E.2.1 12 0)), (1, .int x1)] [] w Q := by
  unfold zb_X13_declarations_p0 at h
  refine kz_iload_n (M := kt_M384) kX13_declarations_c0.1 rfl ?_
  refine kz_sti_n (M := kt_M384) [(0, .ref (w_adr E.2.1 12 0))] kX13_declarations_c0.2.1 (Nat.le_of_ble_eq_true rfl) ⟨⟨rfl, rfl, .inl rfl⟩, trivial⟩ rfl ?_
  exact kz_weak [(0, .ref (w_adr E.2.1 12 0)), (2, .int x1)] ⟨rfl, ⟨rfl, trivial⟩⟩ rfl h
def zL_X13_declare_p149 (E : zE) (L : Nat) (Q : kx_Rs → wS → Prop) (x1 : Int32) (x2 : Int32) (x4 : Int32) (x5 : Int32) (x6 : Int32) (w : wS) : Prop := kzE E L kt_M385 149 [(0, .ref (w_adr E.2.1 12 0)), (1, .int x1), (2, .int x2), (4, .int x4), (5, .int x5), (6, .int x6)] [] w Q
def zL_X13_declare_p109 (E : zE) (L : Nat) (Q : kx_Rs → wS → Prop) (x1 : Int32) (x2 : Int32) (x4 : Int32) (w : wS) : Prop := kzE E L kt_M385 109 [(0, .ref (w_adr E.2.1 12 0)), (1, .int x1), (2, .int x2), (4, .int x4)] [] w Q
def zL_X13_declare_p74 (E : zE) (L : Nat) (Q : kx_Rs → wS → Prop) (x1 : Int32) (x2 : Int32) (x3 : Int32) (x4 : Int32) (w : wS) : Prop := kzE E L kt_M385 74 [(0, .ref (w_adr E.2.1 12 0)), (1, .int x1), (2, .int x2), (3, .int x3), (4, .int x4)] [] w Q
def zb_X13_declare_p330 (E : zE) (L : Nat) (Q : kx_Rs → wS → Prop) (x1 : Int32) (x3 : Int32) (x4 : Int32) (w : wS) : Prop := (kx_inb x1 (w_n w 12 0 31) = true ∧ (kx_inb x1 (w_n w 12 0 31) = true ∧ zw E (L - 21) kt_M540 [.ref (w_adr E.2.1 12 0), .int (w_a w 12 0 31 (x1).toNatClampNeg)] w (wk1 (fun v2 w1 => wle w w1 → zw E (L - 24) kt_M457 [.ref (w_adr E.2.1 12 0), .int (w_a w 12 0 31 (x1).toNatClampNeg), .int v2, .int x3, .int x4] w1 (wk0 (fun w3 => wle w1 w3 → Q (.inl none) w3) (fun e w => Q (.inr e) w))) (fun e w => Q (.inr e) w))))
theorem zt_X13_declare_p330 {E : zE} {L : Nat} {Q : kx_Rs → wS → Prop} {x1 : Int32} {x3 : Int32} {x4 : Int32} {w : wS} (hL : 26 ≤ L) (h : zb_X13_declare_p330 E L Q x1 x3 x4 w) : kzE E L kt_M385 330 [(0, .ref (w_adr E.2.1 12 0)), (1, .int x1), (3, .int x3), (4, .int x4)] [] w Q := by
  unfold zb_X13_declare_p330 at h
  refine kz_aload_n (M := kt_M385) kX13_declare_c21.2.2.2.2.1 rfl ?_
  refine kz_aload_n (M := kt_M385) kX13_declare_c21.2.2.2.2.2.1 rfl ?_
  refine kz_gfc (M := kt_M385) (x := 4103) (c := 12) (o := 0) kX13_declare_c21.2.2.2.2.2.2.1 wf_X13_202 (.inl rfl) ?_
  refine kz_iload_n (M := kt_M385) kX13_declare_c21.2.2.2.2.2.2.2.1 rfl ?_
  refine kz_iald (M := kt_M385) (c := 12) (o := 0) (k := 31) (a := (E.2.1 4103)) kX13_declare_c22.1 ow_12_0_31 oa_12_0_31 ot_0 h (fun h => ?_)
  refine kz_aload_n (M := kt_M385) kX13_declare_c22.2.1 rfl ?_
  refine kz_aload_n (M := kt_M385) kX13_declare_c22.2.2.1 rfl ?_
  refine kz_gfc (M := kt_M385) (x := 4103) (c := 12) (o := 0) kX13_declare_c22.2.2.2.1 wf_X13_202 (.inl rfl) ?_
  refine kz_iload_n (M := kt_M385) kX13_declare_c22.2.2.2.2.1 rfl ?_
  refine kz_iald (M := kt_M385) (c := 12) (o := 0) (k := 31) (a := (E.2.1 4103)) kX13_declare_c22.2.2.2.2.2.1 ow_12_0_31 oa_12_0_31 ot_0 h (fun h => ?_)
  refine kz_cv1 (M := kt_M385) (c := 12) (o := 0) (As := [.int (w_a w 12 0 31 (x1).toNatClampNeg)]) (rest := [.int (w_a w 12 0 31 (x1).toNatClampNeg), .ref (w_adr E.2.1 12 0)]) kX13_declare_c22.2.2.2.2.2.2.1 wl_X13_1210 wMv_540 rfl (.inl rfl) rfl (Nat.le_trans (Nat.le_of_ble_eq_true rfl) hL) (Nat.le_of_ble_eq_true rfl) (Nat.le_of_ble_eq_true rfl) h (fun v2 w1 hle h => ?_) (fun _ _ _ h => kzx_no rfl h)
  have h := h hle
  refine kz_iload_n (M := kt_M385) kX13_declare_c22.2.2.2.2.2.2.2.1 rfl ?_
  refine kz_iload (M := kt_M385) kX13_declare_c23.1 rfl ?_
  refine kz_cv0 (M := kt_M385) (c := 12) (o := 0) (As := [.int (w_a w 12 0 31 (x1).toNatClampNeg), .int v2, .int x3, .int x4]) (rest := []) kX13_declare_c23.2.1 wl_X13_1257 wMv_457 rfl (.inl rfl) rfl (Nat.le_trans (Nat.le_of_ble_eq_true rfl) hL) (Nat.le_of_ble_eq_true rfl) (Nat.le_of_ble_eq_true rfl) h (fun w3 hle h => ?_) (fun _ _ _ h => kzx_no rfl h)
  have h := h hle
  exact kz_ret (M := kt_M385) kX13_declare_c23.2.2.1 rfl h
def zb_X13_declare_p268 (E : zE) (L : Nat) (Q : kx_Rs → wS → Prop) (w : wS) : Prop := Q (.inl none) w
theorem zt_X13_declare_p268 {E : zE} {L : Nat} {Q : kx_Rs → wS → Prop} {w : wS} (hL : 26 ≤ L) (h : zb_X13_declare_p268 E L Q  w) : kzE E L kt_M385 268 [(0, .ref (w_adr E.2.1 12 0))] [] w Q := by
  unfold zb_X13_declare_p268 at h
  exact kz_ret (M := kt_M385) kX13_declare_c16.2.2.2.2.2.2.2.1 rfl h
def zb_X13_declare_p195 (E : zE) (L : Nat) (Q : kx_Rs → wS → Prop) (x1 : Int32) (x2 : Int32) (x4 : Int32) (w : wS) : Prop := (kx_inb x4 (w_n w 12 0 32) = true ∧ zL_X13_declare_p109 E L Q x1 x2 (w_a w 12 0 32 (x4).toNatClampNeg) w)
theorem zt_X13_declare_p195 {E : zE} {L : Nat} {Q : kx_Rs → wS → Prop} {x1 : Int32} {x2 : Int32} {x4 : Int32} {w : wS} (hL : 26 ≤ L) (h : zb_X13_declare_p195 E L Q x1 x2 x4 w) : kzE E L kt_M385 195 [(0, .ref (w_adr E.2.1 12 0)), (1, .int x1), (2, .int x2), (4, .int x4)] [] w Q := by
  unfold zb_X13_declare_p195 at h
  refine kz_aload_n (M := kt_M385) kX13_declare_c11.2.2.2.2.1 rfl ?_
  refine kz_gfc (M := kt_M385) (x := 4104) (c := 12) (o := 0) kX13_declare_c11.2.2.2.2.2.1 wf_X13_205 (.inl rfl) ?_
  refine kz_iload (M := kt_M385) kX13_declare_c11.2.2.2.2.2.2.1 rfl ?_
  refine kz_iald (M := kt_M385) (c := 12) (o := 0) (k := 32) (a := (E.2.1 4104)) kX13_declare_c11.2.2.2.2.2.2.2.1 ow_12_0_32 oa_12_0_32 ot_0 h (fun h => ?_)
  refine kz_sti (M := kt_M385) [(0, .ref (w_adr E.2.1 12 0)), (1, .int x1), (2, .int x2)] kX13_declare_c12.1 (Nat.le_of_ble_eq_true rfl) ⟨⟨rfl, rfl, .inl rfl⟩, ⟨⟨rfl, rfl, .inl rfl⟩, ⟨⟨rfl, rfl, .inl rfl⟩, trivial⟩⟩⟩ rfl ?_
  refine kz_goto (M := kt_M385) kX13_declare_c12.2.1 (t := 109) rfl ?_
  exact kz_weak [(0, .ref (w_adr E.2.1 12 0)), (1, .int x1), (2, .int x2), (4, .int (w_a w 12 0 32 (x4).toNatClampNeg))] ⟨rfl, ⟨rfl, ⟨rfl, ⟨rfl, trivial⟩⟩⟩⟩ rfl h
def zb_X13_declare_p149 (E : zE) (L : Nat) (Q : kx_Rs → wS → Prop) (x1 : Int32) (x2 : Int32) (x4 : Int32) (x5 : Int32) (x6 : Int32) (w : wS) : Prop := (if x2 ≤ x6 then zb_X13_declare_p195 E L Q x1 x2 x4 w else (kx_inb x1 (w_n w 12 0 26) = true ∧ (if ¬ w_a w 12 0 26 (x1).toNatClampNeg = 31 then zb_X13_declare_p195 E L Q x1 x2 x4 w else (kx_inb x1 (w_n w 12 0 27) = true ∧ (kx_inb (x5 + x6) (w_n w 12 0 111) = true ∧ zL_X13_declare_p149 E L Q x1 x2 x4 x5 (x6 + 1) (ws_a w 12 0 111 ((x5 + x6)).toNatClampNeg ((1024 * (w_a w 12 0 27 (x1).toNatClampNeg)) + x6)))))))
theorem zt_X13_declare_p149 {E : zE} {L : Nat} {Q : kx_Rs → wS → Prop} {x1 : Int32} {x2 : Int32} {x4 : Int32} {x5 : Int32} {x6 : Int32} {w : wS} (hL : 26 ≤ L) (h : zb_X13_declare_p149 E L Q x1 x2 x4 x5 x6 w) : kzE E L kt_M385 149 [(0, .ref (w_adr E.2.1 12 0)), (1, .int x1), (2, .int x2), (4, .int x4), (5, .int x5), (6, .int x6)] [] w Q := by
  unfold zb_X13_declare_p149 at h
  refine kz_iload (M := kt_M385) kX13_declare_c8.2.2.2.1 rfl ?_
  refine kz_iload_n (M := kt_M385) kX13_declare_c8.2.2.2.2.1 rfl ?_
  refine kz_icmp_ge (M := kt_M385) kX13_declare_c8.2.2.2.2.2.1 (t := 195) rfl h (fun h => ?_) (fun h => ?_)
  · skip
    exact kz_weak [(0, .ref (w_adr E.2.1 12 0)), (1, .int x1), (2, .int x2), (4, .int x4)] ⟨rfl, ⟨rfl, ⟨rfl, ⟨rfl, trivial⟩⟩⟩⟩ rfl (zt_X13_declare_p195 hL  h)
  · skip
    refine kz_aload_n (M := kt_M385) kX13_declare_c8.2.2.2.2.2.2.1 rfl ?_
    refine kz_gfc (M := kt_M385) (x := 4098) (c := 12) (o := 0) kX13_declare_c8.2.2.2.2.2.2.2.1 wf_X13_187 (.inl rfl) ?_
    refine kz_iload_n (M := kt_M385) kX13_declare_c9.1 rfl ?_
    refine kz_iald (M := kt_M385) (c := 12) (o := 0) (k := 26) (a := (E.2.1 4098)) kX13_declare_c9.2.1 ow_12_0_26 oa_12_0_26 ot_0 h (fun h => ?_)
    refine kz_bi (M := kt_M385) 31 kX13_declare_c9.2.2.1 rfl ?_
    refine kz_icmp_ne (M := kt_M385) kX13_declare_c9.2.2.2.1 (t := 195) rfl h (fun h => ?_) (fun h => ?_)
    · skip
      exact kz_weak [(0, .ref (w_adr E.2.1 12 0)), (1, .int x1), (2, .int x2), (4, .int x4)] ⟨rfl, ⟨rfl, ⟨rfl, ⟨rfl, trivial⟩⟩⟩⟩ rfl (zt_X13_declare_p195 hL  h)
    · skip
      refine kz_aload_n (M := kt_M385) kX13_declare_c9.2.2.2.2.1 rfl ?_
      refine kz_gfa (M := kt_M385) (c := 12) (o := 0) kX13_declare_c9.2.2.2.2.2.1 wf_X13_350 (.inl rfl) ?_
      refine kz_iload (M := kt_M385) kX13_declare_c9.2.2.2.2.2.2.1 rfl ?_
      refine kz_iload (M := kt_M385) kX13_declare_c9.2.2.2.2.2.2.2.1 rfl ?_
      refine kz_iadd (M := kt_M385) kX13_declare_c10.1 ?_
      refine kz_si (M := kt_M385) 1024 kX13_declare_c10.2.1 rfl ?_
      refine kz_aload_n (M := kt_M385) kX13_declare_c10.2.2.1 rfl ?_
      refine kz_gfc (M := kt_M385) (x := 4099) (c := 12) (o := 0) kX13_declare_c10.2.2.2.1 wf_X13_190 (.inl rfl) ?_
      refine kz_iload_n (M := kt_M385) kX13_declare_c10.2.2.2.2.1 rfl ?_
      refine kz_iald (M := kt_M385) (c := 12) (o := 0) (k := 27) (a := (E.2.1 4099)) kX13_declare_c10.2.2.2.2.2.1 ow_12_0_27 oa_12_0_27 ot_0 h (fun h => ?_)
      refine kz_imul (M := kt_M385) kX13_declare_c10.2.2.2.2.2.2.1 ?_
      refine kz_iload (M := kt_M385) kX13_declare_c10.2.2.2.2.2.2.2.1 rfl ?_
      refine kz_iadd (M := kt_M385) kX13_declare_c11.1 ?_
      refine kz_iast (M := kt_M385) (c := 12) (o := 0) (k := 111) (a := (w_d w 12 0 111)) kX13_declare_c11.2.1 ow_12_0_111 oa_12_0_111 ot_0 h (fun h => ?_)
      refine kz_inc (M := kt_M385) [(0, .ref (w_adr E.2.1 12 0)), (1, .int x1), (2, .int x2), (4, .int x4), (5, .int x5)] kX13_declare_c11.2.2.1 rfl (Nat.le_of_ble_eq_true rfl) ⟨⟨rfl, rfl, .inl rfl⟩, ⟨⟨rfl, rfl, .inl rfl⟩, ⟨⟨rfl, rfl, .inl rfl⟩, ⟨⟨rfl, rfl, .inl rfl⟩, ⟨⟨rfl, rfl, .inr rfl⟩, trivial⟩⟩⟩⟩⟩ rfl ?_
      refine kz_goto (M := kt_M385) kX13_declare_c11.2.2.2.1 (t := 149) rfl ?_
      exact kz_weak [(0, .ref (w_adr E.2.1 12 0)), (1, .int x1), (2, .int x2), (4, .int x4), (5, .int x5), (6, .int (x6 + 1))] ⟨rfl, ⟨rfl, ⟨rfl, ⟨rfl, ⟨rfl, ⟨rfl, trivial⟩⟩⟩⟩⟩⟩ rfl h
def zb_X13_declare_p109 (E : zE) (L : Nat) (Q : kx_Rs → wS → Prop) (x1 : Int32) (x2 : Int32) (x4 : Int32) (w : wS) : Prop := (if x4 < 0 then Q (.inl none) w else zw E (L - 23) kt_M419 [.ref (w_adr E.2.1 12 0), .int x2] w (wk1 (fun v2 w1 => wle w w1 → (kx_inb x4 (w_n w1 12 0 31) = true ∧ (kx_inb x4 (w_n w1 12 0 31) = true ∧ zw E (L - 21) kt_M540 [.ref (w_adr E.2.1 12 0), .int (w_a w1 12 0 31 (x4).toNatClampNeg)] w1 (wk1 (fun v4 w3 => wle w1 w3 → zw E (L - 24) kt_M457 [.ref (w_adr E.2.1 12 0), .int (w_a w1 12 0 31 (x4).toNatClampNeg), .int v4, .int v2, .int x2] w3 (wk0 (fun w5 => wle w3 w5 → zL_X13_declare_p149 E L Q x1 x2 x4 v2 0 w5) (fun e w => Q (.inr e) w))) (fun e w => Q (.inr e) w))))) (fun e w => Q (.inr e) w)))
theorem zt_X13_declare_p109 {E : zE} {L : Nat} {Q : kx_Rs → wS → Prop} {x1 : Int32} {x2 : Int32} {x4 : Int32} {w : wS} (hL : 26 ≤ L) (h : zb_X13_declare_p109 E L Q x1 x2 x4 w) : kzE E L kt_M385 109 [(0, .ref (w_adr E.2.1 12 0)), (1, .int x1), (2, .int x2), (4, .int x4)] [] w Q := by
  unfold zb_X13_declare_p109 at h
  refine kz_iload (M := kt_M385) kX13_declare_c5.2.2.2.2.2.1 rfl ?_
  refine kz_if_lt (M := kt_M385) kX13_declare_c5.2.2.2.2.2.2.1 (t := 207) rfl h (fun h => ?_) (fun h => ?_)
  · skip
    exact kz_ret (M := kt_M385) kX13_declare_c12.2.2.1 rfl h
  · skip
    refine kz_aload_n (M := kt_M385) kX13_declare_c5.2.2.2.2.2.2.2.1 rfl ?_
    refine kz_iload_n (M := kt_M385) kX13_declare_c6.1 rfl ?_
    refine kz_cv1 (M := kt_M385) (c := 12) (o := 0) (As := [.int x2]) (rest := []) kX13_declare_c6.2.1 wl_X13_1237 wMv_419 rfl (.inl rfl) rfl (Nat.le_trans (Nat.le_of_ble_eq_true rfl) hL) (Nat.le_of_ble_eq_true rfl) (Nat.le_of_ble_eq_true rfl) h (fun v2 w1 hle h => ?_) (fun _ _ _ h => kzx_no rfl h)
    have h := h hle
    refine kz_sti (M := kt_M385) [(0, .ref (w_adr E.2.1 12 0)), (1, .int x1), (2, .int x2), (4, .int x4)] kX13_declare_c6.2.2.1 (Nat.le_of_ble_eq_true rfl) ⟨⟨rfl, rfl, .inl rfl⟩, ⟨⟨rfl, rfl, .inl rfl⟩, ⟨⟨rfl, rfl, .inl rfl⟩, ⟨⟨rfl, rfl, .inr rfl⟩, trivial⟩⟩⟩⟩ rfl ?_
    refine kz_aload_n (M := kt_M385) kX13_declare_c6.2.2.2.1 rfl ?_
    refine kz_aload_n (M := kt_M385) kX13_declare_c6.2.2.2.2.1 rfl ?_
    refine kz_gfc (M := kt_M385) (x := 4103) (c := 12) (o := 0) kX13_declare_c6.2.2.2.2.2.1 wf_X13_202 (.inl rfl) ?_
    refine kz_iload (M := kt_M385) kX13_declare_c6.2.2.2.2.2.2.1 rfl ?_
    refine kz_iald (M := kt_M385) (c := 12) (o := 0) (k := 31) (a := (E.2.1 4103)) kX13_declare_c6.2.2.2.2.2.2.2.1 ow_12_0_31 oa_12_0_31 ot_0 h (fun h => ?_)
    refine kz_aload_n (M := kt_M385) kX13_declare_c7.1 rfl ?_
    refine kz_aload_n (M := kt_M385) kX13_declare_c7.2.1 rfl ?_
    refine kz_gfc (M := kt_M385) (x := 4103) (c := 12) (o := 0) kX13_declare_c7.2.2.1 wf_X13_202 (.inl rfl) ?_
    refine kz_iload (M := kt_M385) kX13_declare_c7.2.2.2.1 rfl ?_
    refine kz_iald (M := kt_M385) (c := 12) (o := 0) (k := 31) (a := (E.2.1 4103)) kX13_declare_c7.2.2.2.2.1 ow_12_0_31 oa_12_0_31 ot_0 h (fun h => ?_)
    refine kz_cv1 (M := kt_M385) (c := 12) (o := 0) (As := [.int (w_a w1 12 0 31 (x4).toNatClampNeg)]) (rest := [.int (w_a w1 12 0 31 (x4).toNatClampNeg), .ref (w_adr E.2.1 12 0)]) kX13_declare_c7.2.2.2.2.2.1 wl_X13_1210 wMv_540 rfl (.inl rfl) rfl (Nat.le_trans (Nat.le_of_ble_eq_true rfl) hL) (Nat.le_of_ble_eq_true rfl) (Nat.le_of_ble_eq_true rfl) h (fun v4 w3 hle h => ?_) (fun _ _ _ h => kzx_no rfl h)
    have h := h hle
    refine kz_iload (M := kt_M385) kX13_declare_c7.2.2.2.2.2.2.1 rfl ?_
    refine kz_iload_n (M := kt_M385) kX13_declare_c7.2.2.2.2.2.2.2.1 rfl ?_
    refine kz_cv0 (M := kt_M385) (c := 12) (o := 0) (As := [.int (w_a w1 12 0 31 (x4).toNatClampNeg), .int v4, .int v2, .int x2]) (rest := []) kX13_declare_c8.1 wl_X13_1257 wMv_457 rfl (.inl rfl) rfl (Nat.le_trans (Nat.le_of_ble_eq_true rfl) hL) (Nat.le_of_ble_eq_true rfl) (Nat.le_of_ble_eq_true rfl) h (fun w5 hle h => ?_) (fun _ _ _ h => kzx_no rfl h)
    have h := h hle
    refine kz_ic (M := kt_M385) 0 kX13_declare_c8.2.1 rfl ?_
    refine kz_sti (M := kt_M385) [(0, .ref (w_adr E.2.1 12 0)), (1, .int x1), (2, .int x2), (4, .int x4), (5, .int v2)] kX13_declare_c8.2.2.1 (Nat.le_of_ble_eq_true rfl) ⟨⟨rfl, rfl, .inl rfl⟩, ⟨⟨rfl, rfl, .inl rfl⟩, ⟨⟨rfl, rfl, .inl rfl⟩, ⟨⟨rfl, rfl, .inl rfl⟩, ⟨⟨rfl, rfl, .inr rfl⟩, trivial⟩⟩⟩⟩⟩ rfl ?_
    exact kz_weak [(0, .ref (w_adr E.2.1 12 0)), (1, .int x1), (2, .int x2), (4, .int x4), (5, .int v2), (6, .int 0)] ⟨rfl, ⟨rfl, ⟨rfl, ⟨rfl, ⟨rfl, ⟨rfl, trivial⟩⟩⟩⟩⟩⟩ rfl h
def zb_X13_declare_p74 (E : zE) (L : Nat) (Q : kx_Rs → wS → Prop) (x1 : Int32) (x2 : Int32) (x3 : Int32) (x4 : Int32) (w : wS) : Prop := (if x4 < 0 then zw E (L - 21) kt_M496 [.ref (w_adr E.2.1 12 0), .int (x2 * x3)] w (wk0 (fun w1 => wle w w1 → (kx_inb x1 (w_n w1 12 0 29) = true ∧ zL_X13_declare_p109 E L Q x1 x2 (w_a w1 12 0 29 (x1).toNatClampNeg) w1)) (fun e w => Q (.inr e) w)) else (kx_inb x4 (w_n w 12 0 32) = true ∧ zL_X13_declare_p74 E L Q x1 x2 (x3 + 1) (w_a w 12 0 32 (x4).toNatClampNeg) w))
theorem zt_X13_declare_p74 {E : zE} {L : Nat} {Q : kx_Rs → wS → Prop} {x1 : Int32} {x2 : Int32} {x3 : Int32} {x4 : Int32} {w : wS} (hL : 26 ≤ L) (h : zb_X13_declare_p74 E L Q x1 x2 x3 x4 w) : kzE E L kt_M385 74 [(0, .ref (w_adr E.2.1 12 0)), (1, .int x1), (2, .int x2), (3, .int x3), (4, .int x4)] [] w Q := by
  unfold zb_X13_declare_p74 at h
  refine kz_iload (M := kt_M385) kX13_declare_c3.2.2.1 rfl ?_
  refine kz_if_lt (M := kt_M385) kX13_declare_c3.2.2.2.1 (t := 94) rfl h (fun h => ?_) (fun h => ?_)
  · skip
    refine kz_aload_n (M := kt_M385) kX13_declare_c4.2.2.2.1 rfl ?_
    refine kz_iload_n (M := kt_M385) kX13_declare_c4.2.2.2.2.1 rfl ?_
    refine kz_iload_n (M := kt_M385) kX13_declare_c4.2.2.2.2.2.1 rfl ?_
    refine kz_imul (M := kt_M385) kX13_declare_c4.2.2.2.2.2.2.1 ?_
    refine kz_cv0 (M := kt_M385) (c := 12) (o := 0) (As := [.int (x2 * x3)]) (rest := []) kX13_declare_c4.2.2.2.2.2.2.2.1 wl_X13_1246 wMv_496 rfl (.inl rfl) rfl (Nat.le_trans (Nat.le_of_ble_eq_true rfl) hL) (Nat.le_of_ble_eq_true rfl) (Nat.le_of_ble_eq_true rfl) h (fun w1 hle h => ?_) (fun _ _ _ h => kzx_no rfl h)
    have h := h hle
    refine kz_aload_n (M := kt_M385) kX13_declare_c5.1 rfl ?_
    refine kz_gfc (M := kt_M385) (x := 4101) (c := 12) (o := 0) kX13_declare_c5.2.1 wf_X13_196 (.inl rfl) ?_
    refine kz_iload_n (M := kt_M385) kX13_declare_c5.2.2.1 rfl ?_
    refine kz_iald (M := kt_M385) (c := 12) (o := 0) (k := 29) (a := (E.2.1 4101)) kX13_declare_c5.2.2.2.1 ow_12_0_29 oa_12_0_29 ot_0 h (fun h => ?_)
    refine kz_sti (M := kt_M385) [(0, .ref (w_adr E.2.1 12 0)), (1, .int x1), (2, .int x2)] kX13_declare_c5.2.2.2.2.1 (Nat.le_of_ble_eq_true rfl) ⟨⟨rfl, rfl, .inl rfl⟩, ⟨⟨rfl, rfl, .inl rfl⟩, ⟨⟨rfl, rfl, .inl rfl⟩, trivial⟩⟩⟩ rfl ?_
    exact kz_weak [(0, .ref (w_adr E.2.1 12 0)), (1, .int x1), (2, .int x2), (4, .int (w_a w1 12 0 29 (x1).toNatClampNeg))] ⟨rfl, ⟨rfl, ⟨rfl, ⟨rfl, trivial⟩⟩⟩⟩ rfl h
  · skip
    refine kz_inc (M := kt_M385) [(0, .ref (w_adr E.2.1 12 0)), (1, .int x1), (2, .int x2), (4, .int x4)] kX13_declare_c3.2.2.2.2.1 rfl (Nat.le_of_ble_eq_true rfl) ⟨⟨rfl, rfl, .inl rfl⟩, ⟨⟨rfl, rfl, .inl rfl⟩, ⟨⟨rfl, rfl, .inr rfl⟩, ⟨⟨rfl, rfl, .inl rfl⟩, trivial⟩⟩⟩⟩ rfl ?_
    refine kz_aload_n (M := kt_M385) kX13_declare_c3.2.2.2.2.2.1 rfl ?_
    refine kz_gfc (M := kt_M385) (x := 4104) (c := 12) (o := 0) kX13_declare_c3.2.2.2.2.2.2.1 wf_X13_205 (.inl rfl) ?_
    refine kz_iload (M := kt_M385) kX13_declare_c3.2.2.2.2.2.2.2.1 rfl ?_
    refine kz_iald (M := kt_M385) (c := 12) (o := 0) (k := 32) (a := (E.2.1 4104)) kX13_declare_c4.1 ow_12_0_32 oa_12_0_32 ot_0 h (fun h => ?_)
    refine kz_sti (M := kt_M385) [(0, .ref (w_adr E.2.1 12 0)), (1, .int x1), (2, .int x2), (3, .int (x3 + 1))] kX13_declare_c4.2.1 (Nat.le_of_ble_eq_true rfl) ⟨⟨rfl, rfl, .inl rfl⟩, ⟨⟨rfl, rfl, .inl rfl⟩, ⟨⟨rfl, rfl, .inl rfl⟩, ⟨⟨rfl, rfl, .inr rfl⟩, trivial⟩⟩⟩⟩ rfl ?_
    refine kz_goto (M := kt_M385) kX13_declare_c4.2.2.1 (t := 74) rfl ?_
    exact kz_weak [(0, .ref (w_adr E.2.1 12 0)), (1, .int x1), (2, .int x2), (3, .int (x3 + 1)), (4, .int (w_a w 12 0 32 (x4).toNatClampNeg))] ⟨rfl, ⟨rfl, ⟨rfl, ⟨rfl, ⟨rfl, trivial⟩⟩⟩⟩⟩ rfl h
def zb_X13_declare_p63 (E : zE) (L : Nat) (Q : kx_Rs → wS → Prop) (x1 : Int32) (y0 : Int32) (w : wS) : Prop := (kx_inb x1 (w_n w 12 0 29) = true ∧ zL_X13_declare_p74 E L Q x1 y0 0 (w_a w 12 0 29 (x1).toNatClampNeg) w)
theorem zt_X13_declare_p63 {E : zE} {L : Nat} {Q : kx_Rs → wS → Prop} {x1 : Int32} {y0 : Int32} {w : wS} (hL : 26 ≤ L) (h : zb_X13_declare_p63 E L Q x1 y0 w) : kzE E L kt_M385 63 [(0, .ref (w_adr E.2.1 12 0)), (1, .int x1)] [.int y0] w Q := by
  unfold zb_X13_declare_p63 at h
  refine kz_sti_n (M := kt_M385) [(0, .ref (w_adr E.2.1 12 0)), (1, .int x1)] kX13_declare_c2.2.2.1 (Nat.le_of_ble_eq_true rfl) ⟨⟨rfl, rfl, .inl rfl⟩, ⟨⟨rfl, rfl, .inr rfl⟩, trivial⟩⟩ rfl ?_
  refine kz_ic (M := kt_M385) 0 kX13_declare_c2.2.2.2.1 rfl ?_
  refine kz_sti_n (M := kt_M385) [(0, .ref (w_adr E.2.1 12 0)), (1, .int x1), (2, .int y0)] kX13_declare_c2.2.2.2.2.1 (Nat.le_of_ble_eq_true rfl) ⟨⟨rfl, rfl, .inl rfl⟩, ⟨⟨rfl, rfl, .inl rfl⟩, ⟨⟨rfl, rfl, .inr rfl⟩, trivial⟩⟩⟩ rfl ?_
  refine kz_aload_n (M := kt_M385) kX13_declare_c2.2.2.2.2.2.1 rfl ?_
  refine kz_gfc (M := kt_M385) (x := 4101) (c := 12) (o := 0) kX13_declare_c2.2.2.2.2.2.2.1 wf_X13_196 (.inl rfl) ?_
  refine kz_iload_n (M := kt_M385) kX13_declare_c2.2.2.2.2.2.2.2.1 rfl ?_
  refine kz_iald (M := kt_M385) (c := 12) (o := 0) (k := 29) (a := (E.2.1 4101)) kX13_declare_c3.1 ow_12_0_29 oa_12_0_29 ot_0 h (fun h => ?_)
  refine kz_sti (M := kt_M385) [(0, .ref (w_adr E.2.1 12 0)), (1, .int x1), (2, .int y0), (3, .int 0)] kX13_declare_c3.2.1 (Nat.le_of_ble_eq_true rfl) ⟨⟨rfl, rfl, .inl rfl⟩, ⟨⟨rfl, rfl, .inl rfl⟩, ⟨⟨rfl, rfl, .inl rfl⟩, ⟨⟨rfl, rfl, .inr rfl⟩, trivial⟩⟩⟩⟩ rfl ?_
  exact kz_weak [(0, .ref (w_adr E.2.1 12 0)), (1, .int x1), (2, .int y0), (3, .int 0), (4, .int (w_a w 12 0 29 (x1).toNatClampNeg))] ⟨rfl, ⟨rfl, ⟨rfl, ⟨rfl, ⟨rfl, trivial⟩⟩⟩⟩⟩ rfl h
def zb_X13_declare_p0 (E : zE) (L : Nat) (Q : kx_Rs → wS → Prop) (x1 : Int32) (w : wS) : Prop := (kx_inb x1 (w_n w 12 0 26) = true ∧ (if w_a w 12 0 26 (x1).toNatClampNeg = 30 then (kx_inb x1 (w_n w 12 0 28) = true ∧ (if w_a w 12 0 28 (x1).toNatClampNeg < 0 then zb_X13_declare_p63 E L Q x1 1 w else (kx_inb x1 (w_n w 12 0 28) = true ∧ zw E (L - 24) kt_M377 [.ref (w_adr E.2.1 12 0), .int (w_a w 12 0 28 (x1).toNatClampNeg)] w (wk1 (fun v2 w1 => wle w w1 → zb_X13_declare_p63 E L Q x1 v2 w1) (fun e w => Q (.inr e) w))))) else (if w_a w 12 0 26 (x1).toNatClampNeg = 31 then (kx_inb x1 (w_n w 12 0 28) = true ∧ (if w_a w 12 0 28 (x1).toNatClampNeg < 0 then zb_X13_declare_p63 E L Q x1 1 w else (kx_inb x1 (w_n w 12 0 28) = true ∧ zw E (L - 24) kt_M377 [.ref (w_adr E.2.1 12 0), .int (w_a w 12 0 28 (x1).toNatClampNeg)] w (wk1 (fun v4 w3 => wle w w3 → zb_X13_declare_p63 E L Q x1 v4 w3) (fun e w => Q (.inr e) w))))) else (if w_a w 12 0 26 (x1).toNatClampNeg = 33 then (kx_inb x1 (w_n w 12 0 34) = true ∧ (if ((w_a w 12 0 34 (x1).toNatClampNeg) &&& 1) = 0 then (kx_inb x1 (w_n w 12 0 28) = true ∧ zw E (L - 25) kt_M404 [.ref (w_adr E.2.1 12 0), .int (w_a w 12 0 28 (x1).toNatClampNeg)] w (wk1 (fun v6 w5 => wle w w5 → (kx_inb x1 (w_n w5 12 0 31) = true ∧ zw E (L - 21) kt_M540 [.ref (w_adr E.2.1 12 0), .int (w_a w5 12 0 31 (x1).toNatClampNeg)] w5 (wk1 (fun v8 w7 => wle w5 w7 → zw E (L - 22) kt_M547 [.ref (w_adr E.2.1 12 0), .int v8, .int v6] w7 (wk0 (fun w9 => wle w7 w9 → zb_X13_declare_p268 E L Q w9) (fun e w => Q (.inr e) w))) (fun e w => Q (.inr e) w)))) (fun e w => Q (.inr e) w))) else (kx_inb x1 (w_n w 12 0 31) = true ∧ zw E (L - 21) kt_M540 [.ref (w_adr E.2.1 12 0), .int (w_a w 12 0 31 (x1).toNatClampNeg)] w (wk1 (fun v12 w11 => wle w w11 → (kx_inb x1 (w_n w11 12 0 28) = true ∧ zw E (L - 26) kt_M379 [.ref (w_adr E.2.1 12 0), .int v12, .int (w_a w11 12 0 28 (x1).toNatClampNeg)] w11 (wk0 (fun w13 => wle w11 w13 → zb_X13_declare_p268 E L Q w13) (fun e w => Q (.inr e) w)))) (fun e w => Q (.inr e) w))))) else (if w_a w 12 0 26 (x1).toNatClampNeg = 34 then (kx_inb x1 (w_n w 12 0 28) = true ∧ (kx_inb (w_a w 12 0 28 (x1).toNatClampNeg) (w_n w 12 0 28) = true ∧ (if w_a w 12 0 28 (w_a w 12 0 28 (x1).toNatClampNeg).toNatClampNeg < 0 then (kx_inb (w_a w 12 0 28 (x1).toNatClampNeg) (w_n w 12 0 31) = true ∧ zw E (L - 21) kt_M540 [.ref (w_adr E.2.1 12 0), .int (w_a w 12 0 31 (w_a w 12 0 28 (x1).toNatClampNeg).toNatClampNeg)] w (wk1 (fun v16 w15 => wle w w15 → zw E (L - 21) kt_M410 [.ref (w_adr E.2.1 12 0), .int v16] w15 (wk1 (fun v18 w17 => wle w15 w17 → (kx_inb (w_a w 12 0 28 (x1).toNatClampNeg) (w_n w17 12 0 31) = true ∧ zw E (L - 22) kt_M464 [.ref (w_adr E.2.1 12 0), .int (w_a w17 12 0 31 (w_a w 12 0 28 (x1).toNatClampNeg).toNatClampNeg), .int v16] w17 (wk1 (fun v20 w19 => wle w17 w19 → zb_X13_declare_p330 E L Q x1 v18 v20 w19) (fun e w => Q (.inr e) w)))) (fun e w => Q (.inr e) w))) (fun e w => Q (.inr e) w))) else zw E (L - 23) kt_M433 [.ref (w_adr E.2.1 12 0), .int (w_a w 12 0 28 (x1).toNatClampNeg)] w (wk1 (fun v22 w21 => wle w w21 → zb_X13_declare_p330 E L Q x1 v22 1 w21) (fun e w => Q (.inr e) w))))) else Q (.inl none) w)))))
theorem zt_X13_declare_p0 {E : zE} {L : Nat} {Q : kx_Rs → wS → Prop} {x1 : Int32} {w : wS} (hL : 26 ≤ L) (h : zb_X13_declare_p0 E L Q x1 w) : kzE E L kt_M385 0 [(0, .ref (w_adr E.2.1 12 0)), (1, .int x1)] [] w Q := by
  unfold zb_X13_declare_p0 at h
  refine kz_aload_n (M := kt_M385) kX13_declare_c0.1 rfl ?_
  refine kz_gfc (M := kt_M385) (x := 4098) (c := 12) (o := 0) kX13_declare_c0.2.1 wf_X13_187 (.inl rfl) ?_
  refine kz_iload_n (M := kt_M385) kX13_declare_c0.2.2.1 rfl ?_
  refine kz_iald (M := kt_M385) (c := 12) (o := 0) (k := 26) (a := (E.2.1 4098)) kX13_declare_c0.2.2.2.1 ow_12_0_26 oa_12_0_26 ot_0 h (fun h => ?_)
  refine kz_tsw (M := kt_M385) [(30, 40), (31, 40), (33, 208), (34, 269)] [_, _, _, _] 354 dX13_declare_p6 (by decide +kernel) h ⟨fun h => ?_, fun h => ?_, fun h => ?_, fun h => ?_, trivial⟩ (fun h => ?_)
  · skip
    refine kz_aload_n (M := kt_M385) kX13_declare_c0.2.2.2.2.2.1 rfl ?_
    refine kz_gfc (M := kt_M385) (x := 4100) (c := 12) (o := 0) kX13_declare_c0.2.2.2.2.2.2.1 wf_X13_193 (.inl rfl) ?_
    refine kz_iload_n (M := kt_M385) kX13_declare_c0.2.2.2.2.2.2.2.1 rfl ?_
    refine kz_iald (M := kt_M385) (c := 12) (o := 0) (k := 28) (a := (E.2.1 4100)) kX13_declare_c1.1 ow_12_0_28 oa_12_0_28 ot_0 h (fun h => ?_)
    refine kz_if_lt (M := kt_M385) kX13_declare_c1.2.1 (t := 62) rfl h (fun h => ?_) (fun h => ?_)
    · skip
      refine kz_ic (M := kt_M385) 1 kX13_declare_c2.2.1 rfl ?_
      exact kz_weak [(0, .ref (w_adr E.2.1 12 0)), (1, .int x1)] ⟨rfl, ⟨rfl, trivial⟩⟩ rfl (zt_X13_declare_p63 hL  h)
    · skip
      refine kz_aload_n (M := kt_M385) kX13_declare_c1.2.2.1 rfl ?_
      refine kz_aload_n (M := kt_M385) kX13_declare_c1.2.2.2.1 rfl ?_
      refine kz_gfc (M := kt_M385) (x := 4100) (c := 12) (o := 0) kX13_declare_c1.2.2.2.2.1 wf_X13_193 (.inl rfl) ?_
      refine kz_iload_n (M := kt_M385) kX13_declare_c1.2.2.2.2.2.1 rfl ?_
      refine kz_iald (M := kt_M385) (c := 12) (o := 0) (k := 28) (a := (E.2.1 4100)) kX13_declare_c1.2.2.2.2.2.2.1 ow_12_0_28 oa_12_0_28 ot_0 h (fun h => ?_)
      refine kz_cv1 (M := kt_M385) (c := 12) (o := 0) (As := [.int (w_a w 12 0 28 (x1).toNatClampNeg)]) (rest := []) kX13_declare_c1.2.2.2.2.2.2.2.1 wl_X13_824 wMv_377 rfl (.inl rfl) rfl (Nat.le_trans (Nat.le_of_ble_eq_true rfl) hL) (Nat.le_of_ble_eq_true rfl) (Nat.le_of_ble_eq_true rfl) h (fun v2 w1 hle h => ?_) (fun _ _ _ h => kzx_no rfl h)
      have h := h hle
      refine kz_goto (M := kt_M385) kX13_declare_c2.1 (t := 63) rfl ?_
      exact kz_weak [(0, .ref (w_adr E.2.1 12 0)), (1, .int x1)] ⟨rfl, ⟨rfl, trivial⟩⟩ rfl (zt_X13_declare_p63 hL  h)
  · skip
    refine kz_aload_n (M := kt_M385) kX13_declare_c0.2.2.2.2.2.1 rfl ?_
    refine kz_gfc (M := kt_M385) (x := 4100) (c := 12) (o := 0) kX13_declare_c0.2.2.2.2.2.2.1 wf_X13_193 (.inl rfl) ?_
    refine kz_iload_n (M := kt_M385) kX13_declare_c0.2.2.2.2.2.2.2.1 rfl ?_
    refine kz_iald (M := kt_M385) (c := 12) (o := 0) (k := 28) (a := (E.2.1 4100)) kX13_declare_c1.1 ow_12_0_28 oa_12_0_28 ot_0 h (fun h => ?_)
    refine kz_if_lt (M := kt_M385) kX13_declare_c1.2.1 (t := 62) rfl h (fun h => ?_) (fun h => ?_)
    · skip
      refine kz_ic (M := kt_M385) 1 kX13_declare_c2.2.1 rfl ?_
      exact kz_weak [(0, .ref (w_adr E.2.1 12 0)), (1, .int x1)] ⟨rfl, ⟨rfl, trivial⟩⟩ rfl (zt_X13_declare_p63 hL  h)
    · skip
      refine kz_aload_n (M := kt_M385) kX13_declare_c1.2.2.1 rfl ?_
      refine kz_aload_n (M := kt_M385) kX13_declare_c1.2.2.2.1 rfl ?_
      refine kz_gfc (M := kt_M385) (x := 4100) (c := 12) (o := 0) kX13_declare_c1.2.2.2.2.1 wf_X13_193 (.inl rfl) ?_
      refine kz_iload_n (M := kt_M385) kX13_declare_c1.2.2.2.2.2.1 rfl ?_
      refine kz_iald (M := kt_M385) (c := 12) (o := 0) (k := 28) (a := (E.2.1 4100)) kX13_declare_c1.2.2.2.2.2.2.1 ow_12_0_28 oa_12_0_28 ot_0 h (fun h => ?_)
      refine kz_cv1 (M := kt_M385) (c := 12) (o := 0) (As := [.int (w_a w 12 0 28 (x1).toNatClampNeg)]) (rest := []) kX13_declare_c1.2.2.2.2.2.2.2.1 wl_X13_824 wMv_377 rfl (.inl rfl) rfl (Nat.le_trans (Nat.le_of_ble_eq_true rfl) hL) (Nat.le_of_ble_eq_true rfl) (Nat.le_of_ble_eq_true rfl) h (fun v4 w3 hle h => ?_) (fun _ _ _ h => kzx_no rfl h)
      have h := h hle
      refine kz_goto (M := kt_M385) kX13_declare_c2.1 (t := 63) rfl ?_
      exact kz_weak [(0, .ref (w_adr E.2.1 12 0)), (1, .int x1)] ⟨rfl, ⟨rfl, trivial⟩⟩ rfl (zt_X13_declare_p63 hL  h)
  · skip
    refine kz_aload_n (M := kt_M385) kX13_declare_c12.2.2.2.1 rfl ?_
    refine kz_gfc (M := kt_M385) (x := 4106) (c := 12) (o := 0) kX13_declare_c12.2.2.2.2.1 wf_X13_211 (.inl rfl) ?_
    refine kz_iload_n (M := kt_M385) kX13_declare_c12.2.2.2.2.2.1 rfl ?_
    refine kz_iald (M := kt_M385) (c := 12) (o := 0) (k := 34) (a := (E.2.1 4106)) kX13_declare_c12.2.2.2.2.2.2.1 ow_12_0_34 oa_12_0_34 ot_0 h (fun h => ?_)
    refine kz_ic (M := kt_M385) 1 kX13_declare_c12.2.2.2.2.2.2.2.1 rfl ?_
    refine kz_iand (M := kt_M385) kX13_declare_c13.1 ?_
    refine kz_if_eq (M := kt_M385) kX13_declare_c13.2.1 (t := 242) rfl h (fun h => ?_) (fun h => ?_)
    · skip
      refine kz_aload_n (M := kt_M385) kX13_declare_c14.2.2.2.2.2.2.2.1 rfl ?_
      refine kz_aload_n (M := kt_M385) kX13_declare_c15.1 rfl ?_
      refine kz_gfc (M := kt_M385) (x := 4100) (c := 12) (o := 0) kX13_declare_c15.2.1 wf_X13_193 (.inl rfl) ?_
      refine kz_iload_n (M := kt_M385) kX13_declare_c15.2.2.1 rfl ?_
      refine kz_iald (M := kt_M385) (c := 12) (o := 0) (k := 28) (a := (E.2.1 4100)) kX13_declare_c15.2.2.2.1 ow_12_0_28 oa_12_0_28 ot_0 h (fun h => ?_)
      refine kz_cv1 (M := kt_M385) (c := 12) (o := 0) (As := [.int (w_a w 12 0 28 (x1).toNatClampNeg)]) (rest := []) kX13_declare_c15.2.2.2.2.1 wl_X13_1207 wMv_404 rfl (.inl rfl) rfl (Nat.le_trans (Nat.le_of_ble_eq_true rfl) hL) (Nat.le_of_ble_eq_true rfl) (Nat.le_of_ble_eq_true rfl) h (fun v6 w5 hle h => ?_) (fun _ _ _ h => kzx_no rfl h)
      have h := h hle
      refine kz_sti_n (M := kt_M385) [(0, .ref (w_adr E.2.1 12 0)), (1, .int x1)] kX13_declare_c15.2.2.2.2.2.1 (Nat.le_of_ble_eq_true rfl) ⟨⟨rfl, rfl, .inl rfl⟩, ⟨⟨rfl, rfl, .inr rfl⟩, trivial⟩⟩ rfl ?_
      refine kz_aload_n (M := kt_M385) kX13_declare_c15.2.2.2.2.2.2.1 rfl ?_
      refine kz_aload_n (M := kt_M385) kX13_declare_c15.2.2.2.2.2.2.2.1 rfl ?_
      refine kz_aload_n (M := kt_M385) kX13_declare_c16.1 rfl ?_
      refine kz_gfc (M := kt_M385) (x := 4103) (c := 12) (o := 0) kX13_declare_c16.2.1 wf_X13_202 (.inl rfl) ?_
      refine kz_iload_n (M := kt_M385) kX13_declare_c16.2.2.1 rfl ?_
      refine kz_iald (M := kt_M385) (c := 12) (o := 0) (k := 31) (a := (E.2.1 4103)) kX13_declare_c16.2.2.2.1 ow_12_0_31 oa_12_0_31 ot_0 h (fun h => ?_)
      refine kz_cv1 (M := kt_M385) (c := 12) (o := 0) (As := [.int (w_a w5 12 0 31 (x1).toNatClampNeg)]) (rest := [.ref (w_adr E.2.1 12 0)]) kX13_declare_c16.2.2.2.2.1 wl_X13_1210 wMv_540 rfl (.inl rfl) rfl (Nat.le_trans (Nat.le_of_ble_eq_true rfl) hL) (Nat.le_of_ble_eq_true rfl) (Nat.le_of_ble_eq_true rfl) h (fun v8 w7 hle h => ?_) (fun _ _ _ h => kzx_no rfl h)
      have h := h hle
      refine kz_iload_n (M := kt_M385) kX13_declare_c16.2.2.2.2.2.1 rfl ?_
      refine kz_cv0 (M := kt_M385) (c := 12) (o := 0) (As := [.int v8, .int v6]) (rest := []) kX13_declare_c16.2.2.2.2.2.2.1 wl_X13_1140 wMv_547 rfl (.inl rfl) rfl (Nat.le_trans (Nat.le_of_ble_eq_true rfl) hL) (Nat.le_of_ble_eq_true rfl) (Nat.le_of_ble_eq_true rfl) h (fun w9 hle h => ?_) (fun _ _ _ h => kzx_no rfl h)
      have h := h hle
      exact kz_weak [(0, .ref (w_adr E.2.1 12 0))] ⟨rfl, trivial⟩ rfl (zt_X13_declare_p268 hL  h)
    · skip
      refine kz_aload_n (M := kt_M385) kX13_declare_c13.2.2.1 rfl ?_
      refine kz_aload_n (M := kt_M385) kX13_declare_c13.2.2.2.1 rfl ?_
      refine kz_aload_n (M := kt_M385) kX13_declare_c13.2.2.2.2.1 rfl ?_
      refine kz_gfc (M := kt_M385) (x := 4103) (c := 12) (o := 0) kX13_declare_c13.2.2.2.2.2.1 wf_X13_202 (.inl rfl) ?_
      refine kz_iload_n (M := kt_M385) kX13_declare_c13.2.2.2.2.2.2.1 rfl ?_
      refine kz_iald (M := kt_M385) (c := 12) (o := 0) (k := 31) (a := (E.2.1 4103)) kX13_declare_c13.2.2.2.2.2.2.2.1 ow_12_0_31 oa_12_0_31 ot_0 h (fun h => ?_)
      refine kz_cv1 (M := kt_M385) (c := 12) (o := 0) (As := [.int (w_a w 12 0 31 (x1).toNatClampNeg)]) (rest := [.ref (w_adr E.2.1 12 0)]) kX13_declare_c14.1 wl_X13_1210 wMv_540 rfl (.inl rfl) rfl (Nat.le_trans (Nat.le_of_ble_eq_true rfl) hL) (Nat.le_of_ble_eq_true rfl) (Nat.le_of_ble_eq_true rfl) h (fun v12 w11 hle h => ?_) (fun _ _ _ h => kzx_no rfl h)
      have h := h hle
      refine kz_aload_n (M := kt_M385) kX13_declare_c14.2.1 rfl ?_
      refine kz_gfc (M := kt_M385) (x := 4100) (c := 12) (o := 0) kX13_declare_c14.2.2.1 wf_X13_193 (.inl rfl) ?_
      refine kz_iload_n (M := kt_M385) kX13_declare_c14.2.2.2.1 rfl ?_
      refine kz_iald (M := kt_M385) (c := 12) (o := 0) (k := 28) (a := (E.2.1 4100)) kX13_declare_c14.2.2.2.2.1 ow_12_0_28 oa_12_0_28 ot_0 h (fun h => ?_)
      refine kz_cv0 (M := kt_M385) (c := 12) (o := 0) (As := [.int v12, .int (w_a w11 12 0 28 (x1).toNatClampNeg)]) (rest := []) kX13_declare_c14.2.2.2.2.2.1 wl_X13_1251 wMv_379 rfl (.inl rfl) rfl (Nat.le_trans (Nat.le_of_ble_eq_true rfl) hL) (Nat.le_of_ble_eq_true rfl) (Nat.le_of_ble_eq_true rfl) h (fun w13 hle h => ?_) (fun _ _ _ h => kzx_no rfl h)
      have h := h hle
      refine kz_goto (M := kt_M385) kX13_declare_c14.2.2.2.2.2.2.1 (t := 268) rfl ?_
      exact kz_weak [(0, .ref (w_adr E.2.1 12 0))] ⟨rfl, trivial⟩ rfl (zt_X13_declare_p268 hL  h)
  · skip
    refine kz_aload_n (M := kt_M385) kX13_declare_c17.1 rfl ?_
    refine kz_gfc (M := kt_M385) (x := 4100) (c := 12) (o := 0) kX13_declare_c17.2.1 wf_X13_193 (.inl rfl) ?_
    refine kz_iload_n (M := kt_M385) kX13_declare_c17.2.2.1 rfl ?_
    refine kz_iald (M := kt_M385) (c := 12) (o := 0) (k := 28) (a := (E.2.1 4100)) kX13_declare_c17.2.2.2.1 ow_12_0_28 oa_12_0_28 ot_0 h (fun h => ?_)
    refine kz_sti_n (M := kt_M385) [(0, .ref (w_adr E.2.1 12 0)), (1, .int x1)] kX13_declare_c17.2.2.2.2.1 (Nat.le_of_ble_eq_true rfl) ⟨⟨rfl, rfl, .inl rfl⟩, ⟨⟨rfl, rfl, .inr rfl⟩, trivial⟩⟩ rfl ?_
    refine kz_ic (M := kt_M385) 1 kX13_declare_c17.2.2.2.2.2.1 rfl ?_
    refine kz_sti (M := kt_M385) [(0, .ref (w_adr E.2.1 12 0)), (1, .int x1), (2, .int (w_a w 12 0 28 (x1).toNatClampNeg))] kX13_declare_c17.2.2.2.2.2.2.1 (Nat.le_of_ble_eq_true rfl) ⟨⟨rfl, rfl, .inl rfl⟩, ⟨⟨rfl, rfl, .inl rfl⟩, ⟨⟨rfl, rfl, .inl rfl⟩, trivial⟩⟩⟩ rfl ?_
    refine kz_aload_n (M := kt_M385) kX13_declare_c17.2.2.2.2.2.2.2.1 rfl ?_
    refine kz_gfc (M := kt_M385) (x := 4100) (c := 12) (o := 0) kX13_declare_c18.1 wf_X13_193 (.inl rfl) ?_
    refine kz_iload_n (M := kt_M385) kX13_declare_c18.2.1 rfl ?_
    refine kz_iald (M := kt_M385) (c := 12) (o := 0) (k := 28) (a := (E.2.1 4100)) kX13_declare_c18.2.2.1 ow_12_0_28 oa_12_0_28 ot_0 h (fun h => ?_)
    refine kz_if_lt (M := kt_M385) kX13_declare_c18.2.2.2.1 (t := 297) rfl h (fun h => ?_) (fun h => ?_)
    · skip
      refine kz_aload_n (M := kt_M385) kX13_declare_c19.2.1 rfl ?_
      refine kz_aload_n (M := kt_M385) kX13_declare_c19.2.2.1 rfl ?_
      refine kz_gfc (M := kt_M385) (x := 4103) (c := 12) (o := 0) kX13_declare_c19.2.2.2.1 wf_X13_202 (.inl rfl) ?_
      refine kz_iload_n (M := kt_M385) kX13_declare_c19.2.2.2.2.1 rfl ?_
      refine kz_iald (M := kt_M385) (c := 12) (o := 0) (k := 31) (a := (E.2.1 4103)) kX13_declare_c19.2.2.2.2.2.1 ow_12_0_31 oa_12_0_31 ot_0 h (fun h => ?_)
      refine kz_cv1 (M := kt_M385) (c := 12) (o := 0) (As := [.int (w_a w 12 0 31 (w_a w 12 0 28 (x1).toNatClampNeg).toNatClampNeg)]) (rest := []) kX13_declare_c19.2.2.2.2.2.2.1 wl_X13_1210 wMv_540 rfl (.inl rfl) rfl (Nat.le_trans (Nat.le_of_ble_eq_true rfl) hL) (Nat.le_of_ble_eq_true rfl) (Nat.le_of_ble_eq_true rfl) h (fun v16 w15 hle h => ?_) (fun _ _ _ h => kzx_no rfl h)
      have h := h hle
      refine kz_sti (M := kt_M385) [(0, .ref (w_adr E.2.1 12 0)), (1, .int x1), (2, .int (w_a w 12 0 28 (x1).toNatClampNeg))] kX13_declare_c19.2.2.2.2.2.2.2.1 (Nat.le_of_ble_eq_true rfl) ⟨⟨rfl, rfl, .inl rfl⟩, ⟨⟨rfl, rfl, .inl rfl⟩, ⟨⟨rfl, rfl, .inl rfl⟩, trivial⟩⟩⟩ rfl ?_
      refine kz_aload_n (M := kt_M385) kX13_declare_c20.1 rfl ?_
      refine kz_iload (M := kt_M385) kX13_declare_c20.2.1 rfl ?_
      refine kz_cv1 (M := kt_M385) (c := 12) (o := 0) (As := [.int v16]) (rest := []) kX13_declare_c20.2.2.1 wl_X13_1177 wMv_410 rfl (.inl rfl) rfl (Nat.le_trans (Nat.le_of_ble_eq_true rfl) hL) (Nat.le_of_ble_eq_true rfl) (Nat.le_of_ble_eq_true rfl) h (fun v18 w17 hle h => ?_) (fun _ _ _ h => kzx_no rfl h)
      have h := h hle
      refine kz_sti_n (M := kt_M385) [(0, .ref (w_adr E.2.1 12 0)), (1, .int x1), (2, .int (w_a w 12 0 28 (x1).toNatClampNeg)), (5, .int v16)] kX13_declare_c20.2.2.2.1 (Nat.le_of_ble_eq_true rfl) ⟨⟨rfl, rfl, .inl rfl⟩, ⟨⟨rfl, rfl, .inl rfl⟩, ⟨⟨rfl, rfl, .inr rfl⟩, ⟨⟨rfl, rfl, .inl rfl⟩, trivial⟩⟩⟩⟩ rfl ?_
      refine kz_aload_n (M := kt_M385) kX13_declare_c20.2.2.2.2.1 rfl ?_
      refine kz_aload_n (M := kt_M385) kX13_declare_c20.2.2.2.2.2.1 rfl ?_
      refine kz_gfc (M := kt_M385) (x := 4103) (c := 12) (o := 0) kX13_declare_c20.2.2.2.2.2.2.1 wf_X13_202 (.inl rfl) ?_
      refine kz_iload_n (M := kt_M385) kX13_declare_c20.2.2.2.2.2.2.2.1 rfl ?_
      refine kz_iald (M := kt_M385) (c := 12) (o := 0) (k := 31) (a := (E.2.1 4103)) kX13_declare_c21.1 ow_12_0_31 oa_12_0_31 ot_0 h (fun h => ?_)
      refine kz_iload (M := kt_M385) kX13_declare_c21.2.1 rfl ?_
      refine kz_cv1 (M := kt_M385) (c := 12) (o := 0) (As := [.int (w_a w17 12 0 31 (w_a w 12 0 28 (x1).toNatClampNeg).toNatClampNeg), .int v16]) (rest := []) kX13_declare_c21.2.2.1 wl_X13_1254 wMv_464 rfl (.inl rfl) rfl (Nat.le_trans (Nat.le_of_ble_eq_true rfl) hL) (Nat.le_of_ble_eq_true rfl) (Nat.le_of_ble_eq_true rfl) h (fun v20 w19 hle h => ?_) (fun _ _ _ h => kzx_no rfl h)
      have h := h hle
      refine kz_sti (M := kt_M385) [(0, .ref (w_adr E.2.1 12 0)), (1, .int x1), (3, .int v18)] kX13_declare_c21.2.2.2.1 (Nat.le_of_ble_eq_true rfl) ⟨⟨rfl, rfl, .inl rfl⟩, ⟨⟨rfl, rfl, .inl rfl⟩, ⟨⟨rfl, rfl, .inr rfl⟩, trivial⟩⟩⟩ rfl ?_
      exact kz_weak [(0, .ref (w_adr E.2.1 12 0)), (1, .int x1), (3, .int v18), (4, .int v20)] ⟨rfl, ⟨rfl, ⟨rfl, ⟨rfl, trivial⟩⟩⟩⟩ rfl (zt_X13_declare_p330 hL  h)
    · skip
      refine kz_aload_n (M := kt_M385) kX13_declare_c18.2.2.2.2.1 rfl ?_
      refine kz_iload_n (M := kt_M385) kX13_declare_c18.2.2.2.2.2.1 rfl ?_
      refine kz_cv1 (M := kt_M385) (c := 12) (o := 0) (As := [.int (w_a w 12 0 28 (x1).toNatClampNeg)]) (rest := []) kX13_declare_c18.2.2.2.2.2.2.1 wl_X13_1219 wMv_433 rfl (.inl rfl) rfl (Nat.le_trans (Nat.le_of_ble_eq_true rfl) hL) (Nat.le_of_ble_eq_true rfl) (Nat.le_of_ble_eq_true rfl) h (fun v22 w21 hle h => ?_) (fun _ _ _ h => kzx_no rfl h)
      have h := h hle
      refine kz_sti_n (M := kt_M385) [(0, .ref (w_adr E.2.1 12 0)), (1, .int x1), (4, .int 1)] kX13_declare_c18.2.2.2.2.2.2.2.1 (Nat.le_of_ble_eq_true rfl) ⟨⟨rfl, rfl, .inl rfl⟩, ⟨⟨rfl, rfl, .inl rfl⟩, ⟨⟨rfl, rfl, .inl rfl⟩, trivial⟩⟩⟩ rfl ?_
      refine kz_goto (M := kt_M385) kX13_declare_c19.1 (t := 330) rfl ?_
      exact kz_weak [(0, .ref (w_adr E.2.1 12 0)), (1, .int x1), (3, .int v22), (4, .int 1)] ⟨rfl, ⟨rfl, ⟨rfl, ⟨rfl, trivial⟩⟩⟩⟩ rfl (zt_X13_declare_p330 hL  h)
  · skip
    exact kz_ret (M := kt_M385) kX13_declare_c23.2.2.2.1 rfl h
def zb_X13_open_p0 (E : zE) (L : Nat) (Q : kx_Rs → wS → Prop) (x1 : Int32) (w : wS) : Prop := (if ((w_i w 12 0 131) + x1) ≤ 20000 then Q (.inl none) (ws_i w 12 0 131 ((w_i w 12 0 131) + x1)) else zw E (L - 21) kt_M408 [.ref (w_adr E.2.1 12 0), .int 10] w (wkr (fun v2 w1 => wle w w1 → (v2 = some (w_adr E.2.1 13 0) ∧ Q (.inr "MeetingHouseModel$Halt") w1)) (fun e w => Q (.inr e) w)))
theorem zt_X13_open_p0 {E : zE} {L : Nat} {Q : kx_Rs → wS → Prop} {x1 : Int32} {w : wS} (hL : 21 ≤ L) (h : zb_X13_open_p0 E L Q x1 w) : kzE E L kt_M496 0 [(0, .ref (w_adr E.2.1 12 0)), (1, .int x1)] [] w Q := by
  unfold zb_X13_open_p0 at h
  refine kz_aload_n (M := kt_M496) kX13_open_c0.1 rfl ?_
  refine kz_gfi (M := kt_M496) (c := 12) (o := 0) kX13_open_c0.2.1 wf_X13_1243 (.inl rfl) ?_
  refine kz_iload_n (M := kt_M496) kX13_open_c0.2.2.1 rfl ?_
  refine kz_iadd (M := kt_M496) kX13_open_c0.2.2.2.1 ?_
  refine kz_si (M := kt_M496) 20000 kX13_open_c0.2.2.2.2.1 rfl ?_
  refine kz_icmp_le (M := kt_M496) kX13_open_c0.2.2.2.2.2.1 (t := 19) rfl h (fun h => ?_) (fun h => ?_)
  · skip
    refine kz_aload_n (M := kt_M496) kX13_open_c1.2.2.1 rfl ?_
    refine kz_dup (M := kt_M496) kX13_open_c1.2.2.2.1 rfl ?_
    refine kz_gfi (M := kt_M496) (c := 12) (o := 0) kX13_open_c1.2.2.2.2.1 wf_X13_1243 (.inl rfl) ?_
    refine kz_iload_n (M := kt_M496) kX13_open_c1.2.2.2.2.2.1 rfl ?_
    refine kz_iadd (M := kt_M496) kX13_open_c1.2.2.2.2.2.2.1 ?_
    refine kz_pfi (M := kt_M496) (c := 12) (o := 0) kX13_open_c1.2.2.2.2.2.2.2.1 wq_X13_1243 (.inl rfl) ?_
    exact kz_ret (M := kt_M496) kX13_open_c2.1 rfl h
  · skip
    refine kz_aload_n (M := kt_M496) kX13_open_c0.2.2.2.2.2.2.1 rfl ?_
    refine kz_bi (M := kt_M496) 10 kX13_open_c0.2.2.2.2.2.2.2.1 rfl ?_
    refine kz_cvr (M := kt_M496) (c := 12) (o := 0) (As := [.int 10]) (rest := []) kX13_open_c1.1 wl_X13_839 wMv_408 rfl (.inl rfl) rfl (Nat.le_trans (Nat.le_of_ble_eq_true rfl) hL) (Nat.le_of_ble_eq_true rfl) (Nat.le_of_ble_eq_true rfl) h (fun v2 w1 hle h => ?_) (fun _ _ _ h => kzx_no rfl h)
    have h := h hle
    exact kz_throw (M := kt_M496) (c := 13) (o := 0) kX13_open_c1.2.1 rfl (.inl rfl) h (fun h => kzx_no rfl h)
def zb_X13_slot_p0 (E : zE) (L : Nat) (Q : kx_Rs → wS → Prop) (x1 : Int32) (w : wS) : Prop := (kx_inb x1 (w_n w 12 0 51) = true ∧ zw E (L - 22) kt_M415 [.ref (w_adr E.2.1 12 0), .int (w_a w 12 0 51 (x1).toNatClampNeg)] w (wk1 (fun v2 w1 => wle w w1 → (kx_inb x1 (w_n w1 12 0 52) = true ∧ Q (.inl (some (.int ((v2 + 2) + (w_a w1 12 0 52 (x1).toNatClampNeg))))) w1)) (fun e w => Q (.inr e) w)))
theorem zt_X13_slot_p0 {E : zE} {L : Nat} {Q : kx_Rs → wS → Prop} {x1 : Int32} {w : wS} (hL : 22 ≤ L) (h : zb_X13_slot_p0 E L Q x1 w) : kzE E L kt_M540 0 [(0, .ref (w_adr E.2.1 12 0)), (1, .int x1)] [] w Q := by
  unfold zb_X13_slot_p0 at h
  refine kz_aload_n (M := kt_M540) kX13_slot_c0.1 rfl ?_
  refine kz_aload_n (M := kt_M540) kX13_slot_c0.2.1 rfl ?_
  refine kz_gfc (M := kt_M540) (x := 4123) (c := 12) (o := 0) kX13_slot_c0.2.2.1 wf_X13_238 (.inl rfl) ?_
  refine kz_iload_n (M := kt_M540) kX13_slot_c0.2.2.2.1 rfl ?_
  refine kz_iald (M := kt_M540) (c := 12) (o := 0) (k := 51) (a := (E.2.1 4123)) kX13_slot_c0.2.2.2.2.1 ow_12_0_51 oa_12_0_51 ot_0 h (fun h => ?_)
  refine kz_cv1 (M := kt_M540) (c := 12) (o := 0) (As := [.int (w_a w 12 0 51 (x1).toNatClampNeg)]) (rest := []) kX13_slot_c0.2.2.2.2.2.1 wl_X13_1183 wMv_415 rfl (.inl rfl) rfl (Nat.le_trans (Nat.le_of_ble_eq_true rfl) hL) (Nat.le_of_ble_eq_true rfl) (Nat.le_of_ble_eq_true rfl) h (fun v2 w1 hle h => ?_) (fun _ _ _ h => kzx_no rfl h)
  have h := h hle
  refine kz_ic (M := kt_M540) 2 kX13_slot_c0.2.2.2.2.2.2.1 rfl ?_
  refine kz_iadd (M := kt_M540) kX13_slot_c0.2.2.2.2.2.2.2.1 ?_
  refine kz_aload_n (M := kt_M540) kX13_slot_c1.1 rfl ?_
  refine kz_gfc (M := kt_M540) (x := 4124) (c := 12) (o := 0) kX13_slot_c1.2.1 wf_X13_241 (.inl rfl) ?_
  refine kz_iload_n (M := kt_M540) kX13_slot_c1.2.2.1 rfl ?_
  refine kz_iald (M := kt_M540) (c := 12) (o := 0) (k := 52) (a := (E.2.1 4124)) kX13_slot_c1.2.2.2.1 ow_12_0_52 oa_12_0_52 ot_0 h (fun h => ?_)
  refine kz_iadd (M := kt_M540) kX13_slot_c1.2.2.2.2.1 ?_
  exact kz_iret (M := kt_M540) kX13_slot_c1.2.2.2.2.2.1 rfl rfl h
def zL_X13_frameOf_p5 (E : zE) (L : Nat) (Q : kx_Rs → wS → Prop) (x1 : Int32) (x2 : Int32) (w : wS) : Prop := kzE E L kt_M415 5 [(0, .ref (w_adr E.2.1 12 0)), (1, .int x1), (2, .int x2)] [] w Q
def zb_X13_frameOf_p5 (E : zE) (L : Nat) (Q : kx_Rs → wS → Prop) (x1 : Int32) (x2 : Int32) (w : wS) : Prop := zw E (L - 21) kt_M410 [.ref (w_adr E.2.1 12 0), .int x2] w (wk1 (fun v2 w1 => wle w w1 → (if v2 = x1 then Q (.inl (some (.int x2))) w1 else zw E (L - 21) kt_M410 [.ref (w_adr E.2.1 12 0), .int (x2 + 1)] w1 (wk1 (fun v4 w3 => wle w1 w3 → zL_X13_frameOf_p5 E L Q x1 v4 w3) (fun e w => Q (.inr e) w)))) (fun e w => Q (.inr e) w))
theorem zt_X13_frameOf_p5 {E : zE} {L : Nat} {Q : kx_Rs → wS → Prop} {x1 : Int32} {x2 : Int32} {w : wS} (hL : 21 ≤ L) (h : zb_X13_frameOf_p5 E L Q x1 x2 w) : kzE E L kt_M415 5 [(0, .ref (w_adr E.2.1 12 0)), (1, .int x1), (2, .int x2)] [] w Q := by
  unfold zb_X13_frameOf_p5 at h
  refine kz_aload_n (M := kt_M415) kX13_frameOf_c0.2.2.2.1 rfl ?_
  refine kz_iload_n (M := kt_M415) kX13_frameOf_c0.2.2.2.2.1 rfl ?_
  refine kz_cv1 (M := kt_M415) (c := 12) (o := 0) (As := [.int x2]) (rest := []) kX13_frameOf_c0.2.2.2.2.2.1 wl_X13_1177 wMv_410 rfl (.inl rfl) rfl (Nat.le_trans (Nat.le_of_ble_eq_true rfl) hL) (Nat.le_of_ble_eq_true rfl) (Nat.le_of_ble_eq_true rfl) h (fun v2 w1 hle h => ?_) (fun _ _ _ h => kzx_no rfl h)
  have h := h hle
  refine kz_iload_n (M := kt_M415) kX13_frameOf_c0.2.2.2.2.2.2.1 rfl ?_
  refine kz_icmp_eq (M := kt_M415) kX13_frameOf_c0.2.2.2.2.2.2.2.1 (t := 25) rfl h (fun h => ?_) (fun h => ?_)
  · skip
    refine kz_iload_n (M := kt_M415) kX13_frameOf_c1.2.2.2.2.2.2.2.1 rfl ?_
    exact kz_iret (M := kt_M415) kX13_frameOf_c2.1 rfl rfl h
  · skip
    refine kz_aload_n (M := kt_M415) kX13_frameOf_c1.1 rfl ?_
    refine kz_iload_n (M := kt_M415) kX13_frameOf_c1.2.1 rfl ?_
    refine kz_ic (M := kt_M415) 1 kX13_frameOf_c1.2.2.1 rfl ?_
    refine kz_iadd (M := kt_M415) kX13_frameOf_c1.2.2.2.1 ?_
    refine kz_cv1 (M := kt_M415) (c := 12) (o := 0) (As := [.int (x2 + 1)]) (rest := []) kX13_frameOf_c1.2.2.2.2.1 wl_X13_1177 wMv_410 rfl (.inl rfl) rfl (Nat.le_trans (Nat.le_of_ble_eq_true rfl) hL) (Nat.le_of_ble_eq_true rfl) (Nat.le_of_ble_eq_true rfl) h (fun v4 w3 hle h => ?_) (fun _ _ _ h => kzx_no rfl h)
    have h := h hle
    refine kz_sti_n (M := kt_M415) [(0, .ref (w_adr E.2.1 12 0)), (1, .int x1)] kX13_frameOf_c1.2.2.2.2.2.1 (Nat.le_of_ble_eq_true rfl) ⟨⟨rfl, rfl, .inl rfl⟩, ⟨⟨rfl, rfl, .inr rfl⟩, trivial⟩⟩ rfl ?_
    refine kz_goto (M := kt_M415) kX13_frameOf_c1.2.2.2.2.2.2.1 (t := 5) rfl ?_
    exact kz_weak [(0, .ref (w_adr E.2.1 12 0)), (1, .int x1), (2, .int v4)] ⟨rfl, ⟨rfl, ⟨rfl, trivial⟩⟩⟩ rfl h
def zb_X13_frameOf_p0 (E : zE) (L : Nat) (Q : kx_Rs → wS → Prop) (x1 : Int32) (w : wS) : Prop := zL_X13_frameOf_p5 E L Q x1 (w_i w 12 0 162) w
theorem zt_X13_frameOf_p0 {E : zE} {L : Nat} {Q : kx_Rs → wS → Prop} {x1 : Int32} {w : wS} (hL : 21 ≤ L) (h : zb_X13_frameOf_p0 E L Q x1 w) : kzE E L kt_M415 0 [(0, .ref (w_adr E.2.1 12 0)), (1, .int x1)] [] w Q := by
  unfold zb_X13_frameOf_p0 at h
  refine kz_aload_n (M := kt_M415) kX13_frameOf_c0.1 rfl ?_
  refine kz_gfi (M := kt_M415) (c := 12) (o := 0) kX13_frameOf_c0.2.1 wf_X13_1171 (.inl rfl) ?_
  refine kz_sti_n (M := kt_M415) [(0, .ref (w_adr E.2.1 12 0)), (1, .int x1)] kX13_frameOf_c0.2.2.1 (Nat.le_of_ble_eq_true rfl) ⟨⟨rfl, rfl, .inl rfl⟩, ⟨⟨rfl, rfl, .inr rfl⟩, trivial⟩⟩ rfl ?_
  exact kz_weak [(0, .ref (w_adr E.2.1 12 0)), (1, .int x1), (2, .int (w_i w 12 0 162))] ⟨rfl, ⟨rfl, ⟨rfl, trivial⟩⟩⟩ rfl h
def zb_X13_lies_p25 (E : zE) (L : Nat) (Q : kx_Rs → wS → Prop) (w : wS) : Prop := Q (.inl none) w
theorem zt_X13_lies_p25 {E : zE} {L : Nat} {Q : kx_Rs → wS → Prop} {w : wS} (hL : 22 ≤ L) (h : zb_X13_lies_p25 E L Q  w) : kzE E L kt_M457 25 [(0, .ref (w_adr E.2.1 12 0))] [] w Q := by
  unfold zb_X13_lies_p25 at h
  exact kz_ret (M := kt_M457) kX13_lies_c2.1 rfl h
def zb_X13_lies_p0 (E : zE) (L : Nat) (Q : kx_Rs → wS → Prop) (x1 : Int32) (x2 : Int32) (x3 : Int32) (x4 : Int32) (w : wS) : Prop := zw E (L - 22) kt_M547 [.ref (w_adr E.2.1 12 0), .int x2, .int x3] w (wk0 (fun w1 => wle w w1 → (kx_inb x1 (w_n w1 12 0 48) = true ∧ (if w_a w1 12 0 48 (x1).toNatClampNeg = (-1) then zb_X13_lies_p25 E L Q w1 else zw E (L - 22) kt_M547 [.ref (w_adr E.2.1 12 0), .int (x2 + 1), .int x4] w1 (wk0 (fun w3 => wle w1 w3 → zb_X13_lies_p25 E L Q w3) (fun e w => Q (.inr e) w))))) (fun e w => Q (.inr e) w))
theorem zt_X13_lies_p0 {E : zE} {L : Nat} {Q : kx_Rs → wS → Prop} {x1 : Int32} {x2 : Int32} {x3 : Int32} {x4 : Int32} {w : wS} (hL : 22 ≤ L) (h : zb_X13_lies_p0 E L Q x1 x2 x3 x4 w) : kzE E L kt_M457 0 [(0, .ref (w_adr E.2.1 12 0)), (1, .int x1), (2, .int x2), (3, .int x3), (4, .int x4)] [] w Q := by
  unfold zb_X13_lies_p0 at h
  refine kz_aload_n (M := kt_M457) kX13_lies_c0.1 rfl ?_
  refine kz_iload_n (M := kt_M457) kX13_lies_c0.2.1 rfl ?_
  refine kz_iload_n (M := kt_M457) kX13_lies_c0.2.2.1 rfl ?_
  refine kz_cv0 (M := kt_M457) (c := 12) (o := 0) (As := [.int x2, .int x3]) (rest := []) kX13_lies_c0.2.2.2.1 wl_X13_1140 wMv_547 rfl (.inl rfl) rfl (Nat.le_trans (Nat.le_of_ble_eq_true rfl) hL) (Nat.le_of_ble_eq_true rfl) (Nat.le_of_ble_eq_true rfl) h (fun w1 hle h => ?_) (fun _ _ _ h => kzx_no rfl h)
  have h := h hle
  refine kz_aload_n (M := kt_M457) kX13_lies_c0.2.2.2.2.1 rfl ?_
  refine kz_gfc (M := kt_M457) (x := 4120) (c := 12) (o := 0) kX13_lies_c0.2.2.2.2.2.1 wf_X13_229 (.inl rfl) ?_
  refine kz_iload_n (M := kt_M457) kX13_lies_c0.2.2.2.2.2.2.1 rfl ?_
  refine kz_iald (M := kt_M457) (c := 12) (o := 0) (k := 48) (a := (E.2.1 4120)) kX13_lies_c0.2.2.2.2.2.2.2.1 ow_12_0_48 oa_12_0_48 ot_0 h (fun h => ?_)
  refine kz_ic (M := kt_M457) (-1) kX13_lies_c1.1 rfl ?_
  refine kz_icmp_eq (M := kt_M457) kX13_lies_c1.2.1 (t := 25) rfl h (fun h => ?_) (fun h => ?_)
  · skip
    exact kz_weak [(0, .ref (w_adr E.2.1 12 0))] ⟨rfl, trivial⟩ rfl (zt_X13_lies_p25 hL  h)
  · skip
    refine kz_aload_n (M := kt_M457) kX13_lies_c1.2.2.1 rfl ?_
    refine kz_iload_n (M := kt_M457) kX13_lies_c1.2.2.2.1 rfl ?_
    refine kz_ic (M := kt_M457) 1 kX13_lies_c1.2.2.2.2.1 rfl ?_
    refine kz_iadd (M := kt_M457) kX13_lies_c1.2.2.2.2.2.1 ?_
    refine kz_iload (M := kt_M457) kX13_lies_c1.2.2.2.2.2.2.1 rfl ?_
    refine kz_cv0 (M := kt_M457) (c := 12) (o := 0) (As := [.int (x2 + 1), .int x4]) (rest := []) kX13_lies_c1.2.2.2.2.2.2.2.1 wl_X13_1140 wMv_547 rfl (.inl rfl) rfl (Nat.le_trans (Nat.le_of_ble_eq_true rfl) hL) (Nat.le_of_ble_eq_true rfl) (Nat.le_of_ble_eq_true rfl) h (fun w3 hle h => ?_) (fun _ _ _ h => kzx_no rfl h)
    have h := h hle
    exact kz_weak [(0, .ref (w_adr E.2.1 12 0))] ⟨rfl, trivial⟩ rfl (zt_X13_lies_p25 hL  h)
def zL_X13_copyInto_p31 (E : zE) (L : Nat) (Q : kx_Rs → wS → Prop) (x1 : Int32) (x3 : Int32) (x4 : Int32) (x5 : Int32) (x6 : Int32) (w : wS) : Prop := kzE E L kt_M379 31 [(0, .ref (w_adr E.2.1 12 0)), (1, .int x1), (3, .int x3), (4, .int x4), (5, .int x5), (6, .int x6)] [] w Q
def zb_X13_copyInto_p31 (E : zE) (L : Nat) (Q : kx_Rs → wS → Prop) (x1 : Int32) (x3 : Int32) (x4 : Int32) (x5 : Int32) (x6 : Int32) (w : wS) : Prop := (if x3 ≤ x6 then zw E (L - 22) kt_M547 [.ref (w_adr E.2.1 12 0), .int x1, .int x5] w (wk0 (fun w1 => wle w w1 → zw E (L - 22) kt_M547 [.ref (w_adr E.2.1 12 0), .int (x1 + 1), .int x3] w1 (wk0 (fun w3 => wle w1 w3 → Q (.inl none) w3) (fun e w => Q (.inr e) w))) (fun e w => Q (.inr e) w)) else (kx_inb (x4 + x6) (w_n w 12 0 111) = true ∧ (kx_inb (x5 + x6) (w_n w 12 0 111) = true ∧ zL_X13_copyInto_p31 E L Q x1 x3 x4 x5 (x6 + 1) (ws_a w 12 0 111 ((x5 + x6)).toNatClampNeg (w_a w 12 0 111 ((x4 + x6)).toNatClampNeg)))))
theorem zt_X13_copyInto_p31 {E : zE} {L : Nat} {Q : kx_Rs → wS → Prop} {x1 : Int32} {x3 : Int32} {x4 : Int32} {x5 : Int32} {x6 : Int32} {w : wS} (hL : 26 ≤ L) (h : zb_X13_copyInto_p31 E L Q x1 x3 x4 x5 x6 w) : kzE E L kt_M379 31 [(0, .ref (w_adr E.2.1 12 0)), (1, .int x1), (3, .int x3), (4, .int x4), (5, .int x5), (6, .int x6)] [] w Q := by
  unfold zb_X13_copyInto_p31 at h
  refine kz_iload (M := kt_M379) kX13_copyInto_c2.2.2.1 rfl ?_
  refine kz_iload_n (M := kt_M379) kX13_copyInto_c2.2.2.2.1 rfl ?_
  refine kz_icmp_ge (M := kt_M379) kX13_copyInto_c2.2.2.2.2.1 (t := 63) rfl h (fun h => ?_) (fun h => ?_)
  · skip
    refine kz_aload_n (M := kt_M379) kX13_copyInto_c4.2.2.2.1 rfl ?_
    refine kz_iload_n (M := kt_M379) kX13_copyInto_c4.2.2.2.2.1 rfl ?_
    refine kz_iload (M := kt_M379) kX13_copyInto_c4.2.2.2.2.2.1 rfl ?_
    refine kz_cv0 (M := kt_M379) (c := 12) (o := 0) (As := [.int x1, .int x5]) (rest := []) kX13_copyInto_c4.2.2.2.2.2.2.1 wl_X13_1140 wMv_547 rfl (.inl rfl) rfl (Nat.le_trans (Nat.le_of_ble_eq_true rfl) hL) (Nat.le_of_ble_eq_true rfl) (Nat.le_of_ble_eq_true rfl) h (fun w1 hle h => ?_) (fun _ _ _ h => kzx_no rfl h)
    have h := h hle
    refine kz_aload_n (M := kt_M379) kX13_copyInto_c4.2.2.2.2.2.2.2.1 rfl ?_
    refine kz_iload_n (M := kt_M379) kX13_copyInto_c5.1 rfl ?_
    refine kz_ic (M := kt_M379) 1 kX13_copyInto_c5.2.1 rfl ?_
    refine kz_iadd (M := kt_M379) kX13_copyInto_c5.2.2.1 ?_
    refine kz_iload_n (M := kt_M379) kX13_copyInto_c5.2.2.2.1 rfl ?_
    refine kz_cv0 (M := kt_M379) (c := 12) (o := 0) (As := [.int (x1 + 1), .int x3]) (rest := []) kX13_copyInto_c5.2.2.2.2.1 wl_X13_1140 wMv_547 rfl (.inl rfl) rfl (Nat.le_trans (Nat.le_of_ble_eq_true rfl) hL) (Nat.le_of_ble_eq_true rfl) (Nat.le_of_ble_eq_true rfl) h (fun w3 hle h => ?_) (fun _ _ _ h => kzx_no rfl h)
    have h := h hle
    exact kz_ret (M := kt_M379) kX13_copyInto_c5.2.2.2.2.2.1 rfl h
  · skip
    refine kz_aload_n (M := kt_M379) kX13_copyInto_c2.2.2.2.2.2.1 rfl ?_
    refine kz_gfa (M := kt_M379) (c := 12) (o := 0) kX13_copyInto_c2.2.2.2.2.2.2.1 wf_X13_350 (.inl rfl) ?_
    refine kz_iload (M := kt_M379) kX13_copyInto_c2.2.2.2.2.2.2.2.1 rfl ?_
    refine kz_iload (M := kt_M379) kX13_copyInto_c3.1 rfl ?_
    refine kz_iadd (M := kt_M379) kX13_copyInto_c3.2.1 ?_
    refine kz_aload_n (M := kt_M379) kX13_copyInto_c3.2.2.1 rfl ?_
    refine kz_gfa (M := kt_M379) (c := 12) (o := 0) kX13_copyInto_c3.2.2.2.1 wf_X13_350 (.inl rfl) ?_
    refine kz_iload (M := kt_M379) kX13_copyInto_c3.2.2.2.2.1 rfl ?_
    refine kz_iload (M := kt_M379) kX13_copyInto_c3.2.2.2.2.2.1 rfl ?_
    refine kz_iadd (M := kt_M379) kX13_copyInto_c3.2.2.2.2.2.2.1 ?_
    refine kz_iald (M := kt_M379) (c := 12) (o := 0) (k := 111) (a := (w_d w 12 0 111)) kX13_copyInto_c3.2.2.2.2.2.2.2.1 ow_12_0_111 oa_12_0_111 ot_0 h (fun h => ?_)
    refine kz_iast (M := kt_M379) (c := 12) (o := 0) (k := 111) (a := (w_d w 12 0 111)) kX13_copyInto_c4.1 ow_12_0_111 oa_12_0_111 ot_0 h (fun h => ?_)
    refine kz_inc (M := kt_M379) [(0, .ref (w_adr E.2.1 12 0)), (1, .int x1), (3, .int x3), (4, .int x4), (5, .int x5)] kX13_copyInto_c4.2.1 rfl (Nat.le_of_ble_eq_true rfl) ⟨⟨rfl, rfl, .inl rfl⟩, ⟨⟨rfl, rfl, .inl rfl⟩, ⟨⟨rfl, rfl, .inl rfl⟩, ⟨⟨rfl, rfl, .inl rfl⟩, ⟨⟨rfl, rfl, .inr rfl⟩, trivial⟩⟩⟩⟩⟩ rfl ?_
    refine kz_goto (M := kt_M379) kX13_copyInto_c4.2.2.1 (t := 31) rfl ?_
    exact kz_weak [(0, .ref (w_adr E.2.1 12 0)), (1, .int x1), (3, .int x3), (4, .int x4), (5, .int x5), (6, .int (x6 + 1))] ⟨rfl, ⟨rfl, ⟨rfl, ⟨rfl, ⟨rfl, ⟨rfl, trivial⟩⟩⟩⟩⟩⟩ rfl h
def zb_X13_copyInto_p0 (E : zE) (L : Nat) (Q : kx_Rs → wS → Prop) (x1 : Int32) (x2 : Int32) (w : wS) : Prop := zw E (L - 26) kt_M405 [.ref (w_adr E.2.1 12 0), .int x2] w (wk0 (fun w1 => wle w w1 → zw E (L - 21) kt_M496 [.ref (w_adr E.2.1 12 0), .int (w_i w1 12 0 169)] w1 (wk0 (fun w3 => wle w1 w3 → zw E (L - 23) kt_M419 [.ref (w_adr E.2.1 12 0), .int (w_i w1 12 0 169)] w3 (wk1 (fun v6 w5 => wle w3 w5 → zL_X13_copyInto_p31 E L Q x1 (w_i w1 12 0 169) (w_i w1 12 0 168) v6 0 w5) (fun e w => Q (.inr e) w))) (fun e w => Q (.inr e) w))) (fun e w => Q (.inr e) w))
theorem zt_X13_copyInto_p0 {E : zE} {L : Nat} {Q : kx_Rs → wS → Prop} {x1 : Int32} {x2 : Int32} {w : wS} (hL : 26 ≤ L) (h : zb_X13_copyInto_p0 E L Q x1 x2 w) : kzE E L kt_M379 0 [(0, .ref (w_adr E.2.1 12 0)), (1, .int x1), (2, .int x2)] [] w Q := by
  unfold zb_X13_copyInto_p0 at h
  refine kz_aload_n (M := kt_M379) kX13_copyInto_c0.1 rfl ?_
  refine kz_iload_n (M := kt_M379) kX13_copyInto_c0.2.1 rfl ?_
  refine kz_cv0 (M := kt_M379) (c := 12) (o := 0) (As := [.int x2]) (rest := []) kX13_copyInto_c0.2.2.1 wl_X13_1225 wMv_405 rfl (.inl rfl) rfl (Nat.le_trans (Nat.le_of_ble_eq_true rfl) hL) (Nat.le_of_ble_eq_true rfl) (Nat.le_of_ble_eq_true rfl) h (fun w1 hle h => ?_) (fun _ _ _ h => kzx_no rfl h)
  have h := h hle
  refine kz_aload_n (M := kt_M379) kX13_copyInto_c0.2.2.2.1 rfl ?_
  refine kz_gfi (M := kt_M379) (c := 12) (o := 0) kX13_copyInto_c0.2.2.2.2.1 wf_X13_1234 (.inl rfl) ?_
  refine kz_sti_n (M := kt_M379) [(0, .ref (w_adr E.2.1 12 0)), (1, .int x1)] kX13_copyInto_c0.2.2.2.2.2.1 (Nat.le_of_ble_eq_true rfl) ⟨⟨rfl, rfl, .inl rfl⟩, ⟨⟨rfl, rfl, .inl rfl⟩, trivial⟩⟩ rfl ?_
  refine kz_aload_n (M := kt_M379) kX13_copyInto_c0.2.2.2.2.2.2.1 rfl ?_
  refine kz_gfi (M := kt_M379) (c := 12) (o := 0) kX13_copyInto_c0.2.2.2.2.2.2.2.1 wf_X13_1231 (.inl rfl) ?_
  refine kz_sti (M := kt_M379) [(0, .ref (w_adr E.2.1 12 0)), (1, .int x1), (3, .int (w_i w1 12 0 169))] kX13_copyInto_c1.1 (Nat.le_of_ble_eq_true rfl) ⟨⟨rfl, rfl, .inl rfl⟩, ⟨⟨rfl, rfl, .inl rfl⟩, ⟨⟨rfl, rfl, .inr rfl⟩, trivial⟩⟩⟩ rfl ?_
  refine kz_aload_n (M := kt_M379) kX13_copyInto_c1.2.1 rfl ?_
  refine kz_iload_n (M := kt_M379) kX13_copyInto_c1.2.2.1 rfl ?_
  refine kz_cv0 (M := kt_M379) (c := 12) (o := 0) (As := [.int (w_i w1 12 0 169)]) (rest := []) kX13_copyInto_c1.2.2.2.1 wl_X13_1246 wMv_496 rfl (.inl rfl) rfl (Nat.le_trans (Nat.le_of_ble_eq_true rfl) hL) (Nat.le_of_ble_eq_true rfl) (Nat.le_of_ble_eq_true rfl) h (fun w3 hle h => ?_) (fun _ _ _ h => kzx_no rfl h)
  have h := h hle
  refine kz_aload_n (M := kt_M379) kX13_copyInto_c1.2.2.2.2.1 rfl ?_
  refine kz_iload_n (M := kt_M379) kX13_copyInto_c1.2.2.2.2.2.1 rfl ?_
  refine kz_cv1 (M := kt_M379) (c := 12) (o := 0) (As := [.int (w_i w1 12 0 169)]) (rest := []) kX13_copyInto_c1.2.2.2.2.2.2.1 wl_X13_1237 wMv_419 rfl (.inl rfl) rfl (Nat.le_trans (Nat.le_of_ble_eq_true rfl) hL) (Nat.le_of_ble_eq_true rfl) (Nat.le_of_ble_eq_true rfl) h (fun v6 w5 hle h => ?_) (fun _ _ _ h => kzx_no rfl h)
  have h := h hle
  refine kz_sti (M := kt_M379) [(0, .ref (w_adr E.2.1 12 0)), (1, .int x1), (3, .int (w_i w1 12 0 169)), (4, .int (w_i w1 12 0 168))] kX13_copyInto_c1.2.2.2.2.2.2.2.1 (Nat.le_of_ble_eq_true rfl) ⟨⟨rfl, rfl, .inl rfl⟩, ⟨⟨rfl, rfl, .inl rfl⟩, ⟨⟨rfl, rfl, .inl rfl⟩, ⟨⟨rfl, rfl, .inr rfl⟩, trivial⟩⟩⟩⟩ rfl ?_
  refine kz_ic (M := kt_M379) 0 kX13_copyInto_c2.1 rfl ?_
  refine kz_sti (M := kt_M379) [(0, .ref (w_adr E.2.1 12 0)), (1, .int x1), (3, .int (w_i w1 12 0 169)), (4, .int (w_i w1 12 0 168)), (5, .int v6)] kX13_copyInto_c2.2.1 (Nat.le_of_ble_eq_true rfl) ⟨⟨rfl, rfl, .inl rfl⟩, ⟨⟨rfl, rfl, .inl rfl⟩, ⟨⟨rfl, rfl, .inl rfl⟩, ⟨⟨rfl, rfl, .inl rfl⟩, ⟨⟨rfl, rfl, .inr rfl⟩, trivial⟩⟩⟩⟩⟩ rfl ?_
  exact kz_weak [(0, .ref (w_adr E.2.1 12 0)), (1, .int x1), (3, .int (w_i w1 12 0 169)), (4, .int (w_i w1 12 0 168)), (5, .int v6), (6, .int 0)] ⟨rfl, ⟨rfl, ⟨rfl, ⟨rfl, ⟨rfl, ⟨rfl, trivial⟩⟩⟩⟩⟩⟩ rfl h
def zL_X13_evalArray_p215 (E : zE) (L : Nat) (Q : kx_Rs → wS → Prop) (x3 : Int32) (w : wS) : Prop := kzE E L kt_M405 215 [(0, .ref (w_adr E.2.1 12 0)), (3, .int x3)] [] w Q
def zL_X13_evalArray_p116 (E : zE) (L : Nat) (Q : kx_Rs → wS → Prop) (x2 : Int32) (x3 : Int32) (x4 : Int32) (x5 : Int32) (w : wS) : Prop := kzE E L kt_M405 116 [(0, .ref (w_adr E.2.1 12 0)), (2, .int x2), (3, .int x3), (4, .int x4), (5, .int x5)] [] w Q
def zb_X13_evalArray_p215 (E : zE) (L : Nat) (Q : kx_Rs → wS → Prop) (x3 : Int32) (w : wS) : Prop := (if w_i w 12 0 169 ≤ x3 then Q (.inl none) w else zw E (L - 21) kt_M594 [.ref (w_adr E.2.1 12 0), .int ((w_i w 12 0 168) + x3)] w (wk1 (fun v2 w1 => wle w w1 → zL_X13_evalArray_p215 E L Q (x3 + 1) w1) (fun e w => Q (.inr e) w)))
theorem zt_X13_evalArray_p215 {E : zE} {L : Nat} {Q : kx_Rs → wS → Prop} {x3 : Int32} {w : wS} (hL : 26 ≤ L) (h : zb_X13_evalArray_p215 E L Q x3 w) : kzE E L kt_M405 215 [(0, .ref (w_adr E.2.1 12 0)), (3, .int x3)] [] w Q := by
  unfold zb_X13_evalArray_p215 at h
  refine kz_iload_n (M := kt_M405) kX13_evalArray_c13.2.2.2.2.2.2.2.1 rfl ?_
  refine kz_aload_n (M := kt_M405) kX13_evalArray_c14.1 rfl ?_
  refine kz_gfi (M := kt_M405) (c := 12) (o := 0) kX13_evalArray_c14.2.1 wf_X13_1234 (.inl rfl) ?_
  refine kz_icmp_ge (M := kt_M405) kX13_evalArray_c14.2.2.1 (t := 241) rfl h (fun h => ?_) (fun h => ?_)
  · skip
    exact kz_ret (M := kt_M405) kX13_evalArray_c15.2.2.2.2.1 rfl h
  · skip
    refine kz_aload_n (M := kt_M405) kX13_evalArray_c14.2.2.2.1 rfl ?_
    refine kz_aload_n (M := kt_M405) kX13_evalArray_c14.2.2.2.2.1 rfl ?_
    refine kz_gfi (M := kt_M405) (c := 12) (o := 0) kX13_evalArray_c14.2.2.2.2.2.1 wf_X13_1231 (.inl rfl) ?_
    refine kz_iload_n (M := kt_M405) kX13_evalArray_c14.2.2.2.2.2.2.1 rfl ?_
    refine kz_iadd (M := kt_M405) kX13_evalArray_c14.2.2.2.2.2.2.2.1 ?_
    refine kz_cv1 (M := kt_M405) (c := 12) (o := 0) (As := [.int ((w_i w 12 0 168) + x3)]) (rest := []) kX13_evalArray_c15.1 wl_X13_1222 wMv_594 rfl (.inl rfl) rfl (Nat.le_trans (Nat.le_of_ble_eq_true rfl) hL) (Nat.le_of_ble_eq_true rfl) (Nat.le_of_ble_eq_true rfl) h (fun v2 w1 hle h => ?_) (fun _ _ _ h => kzx_no rfl h)
    have h := h hle
    refine kz_sti (M := kt_M405) [(0, .ref (w_adr E.2.1 12 0)), (3, .int x3)] kX13_evalArray_c15.2.1 (Nat.le_of_ble_eq_true rfl) ⟨⟨rfl, rfl, .inl rfl⟩, ⟨⟨rfl, rfl, .inr rfl⟩, trivial⟩⟩ rfl ?_
    refine kz_inc (M := kt_M405) [(0, .ref (w_adr E.2.1 12 0))] kX13_evalArray_c15.2.2.1 rfl (Nat.le_of_ble_eq_true rfl) ⟨⟨rfl, rfl, .inl rfl⟩, trivial⟩ rfl ?_
    refine kz_goto (M := kt_M405) kX13_evalArray_c15.2.2.2.1 (t := 215) rfl ?_
    exact kz_weak [(0, .ref (w_adr E.2.1 12 0)), (3, .int (x3 + 1))] ⟨rfl, ⟨rfl, trivial⟩⟩ rfl h
def zb_X13_evalArray_p116 (E : zE) (L : Nat) (Q : kx_Rs → wS → Prop) (x2 : Int32) (x3 : Int32) (x4 : Int32) (x5 : Int32) (w : wS) : Prop := (if x5 < 0 then Q (.inl none) (ws_i (ws_i w 12 0 168 x3) 12 0 169 x2) else zw E (L - 25) kt_M404 [.ref (w_adr E.2.1 12 0), .int x5] w (wk1 (fun v2 w1 => wle w w1 → (kx_inb (x3 + x4) (w_n w1 12 0 111) = true ∧ (kx_inb x5 (w_n w1 12 0 32) = true ∧ zL_X13_evalArray_p116 E L Q x2 x3 (x4 + 1) (w_a w1 12 0 32 (x5).toNatClampNeg) (ws_a w1 12 0 111 ((x3 + x4)).toNatClampNeg v2)))) (fun e w => Q (.inr e) w)))
theorem zt_X13_evalArray_p116 {E : zE} {L : Nat} {Q : kx_Rs → wS → Prop} {x2 : Int32} {x3 : Int32} {x4 : Int32} {x5 : Int32} {w : wS} (hL : 26 ≤ L) (h : zb_X13_evalArray_p116 E L Q x2 x3 x4 x5 w) : kzE E L kt_M405 116 [(0, .ref (w_adr E.2.1 12 0)), (2, .int x2), (3, .int x3), (4, .int x4), (5, .int x5)] [] w Q := by
  unfold zb_X13_evalArray_p116 at h
  refine kz_iload (M := kt_M405) kX13_evalArray_c6.2.2.2.2.2.1 rfl ?_
  refine kz_if_lt (M := kt_M405) kX13_evalArray_c6.2.2.2.2.2.2.1 (t := 155) rfl h (fun h => ?_) (fun h => ?_)
  · skip
    refine kz_aload_n (M := kt_M405) kX13_evalArray_c9.2.1 rfl ?_
    refine kz_iload_n (M := kt_M405) kX13_evalArray_c9.2.2.1 rfl ?_
    refine kz_pfi (M := kt_M405) (c := 12) (o := 0) kX13_evalArray_c9.2.2.2.1 wq_X13_1231 (.inl rfl) ?_
    refine kz_aload_n (M := kt_M405) kX13_evalArray_c9.2.2.2.2.1 rfl ?_
    refine kz_iload_n (M := kt_M405) kX13_evalArray_c9.2.2.2.2.2.1 rfl ?_
    refine kz_pfi (M := kt_M405) (c := 12) (o := 0) kX13_evalArray_c9.2.2.2.2.2.2.1 wq_X13_1234 (.inl rfl) ?_
    exact kz_ret (M := kt_M405) kX13_evalArray_c9.2.2.2.2.2.2.2.1 rfl h
  · skip
    refine kz_aload_n (M := kt_M405) kX13_evalArray_c6.2.2.2.2.2.2.2.1 rfl ?_
    refine kz_iload (M := kt_M405) kX13_evalArray_c7.1 rfl ?_
    refine kz_cv1 (M := kt_M405) (c := 12) (o := 0) (As := [.int x5]) (rest := []) kX13_evalArray_c7.2.1 wl_X13_1207 wMv_404 rfl (.inl rfl) rfl (Nat.le_trans (Nat.le_of_ble_eq_true rfl) hL) (Nat.le_of_ble_eq_true rfl) (Nat.le_of_ble_eq_true rfl) h (fun v2 w1 hle h => ?_) (fun _ _ _ h => kzx_no rfl h)
    have h := h hle
    refine kz_sti (M := kt_M405) [(0, .ref (w_adr E.2.1 12 0)), (2, .int x2), (3, .int x3), (4, .int x4), (5, .int x5)] kX13_evalArray_c7.2.2.1 (Nat.le_of_ble_eq_true rfl) ⟨⟨rfl, rfl, .inl rfl⟩, ⟨⟨rfl, rfl, .inl rfl⟩, ⟨⟨rfl, rfl, .inl rfl⟩, ⟨⟨rfl, rfl, .inl rfl⟩, ⟨⟨rfl, rfl, .inr rfl⟩, trivial⟩⟩⟩⟩⟩ rfl ?_
    refine kz_aload_n (M := kt_M405) kX13_evalArray_c7.2.2.2.1 rfl ?_
    refine kz_gfa (M := kt_M405) (c := 12) (o := 0) kX13_evalArray_c7.2.2.2.2.1 wf_X13_350 (.inl rfl) ?_
    refine kz_iload_n (M := kt_M405) kX13_evalArray_c7.2.2.2.2.2.1 rfl ?_
    refine kz_iload (M := kt_M405) kX13_evalArray_c7.2.2.2.2.2.2.1 rfl ?_
    refine kz_iadd (M := kt_M405) kX13_evalArray_c7.2.2.2.2.2.2.2.1 ?_
    refine kz_iload (M := kt_M405) kX13_evalArray_c8.1 rfl ?_
    refine kz_iast (M := kt_M405) (c := 12) (o := 0) (k := 111) (a := (w_d w1 12 0 111)) kX13_evalArray_c8.2.1 ow_12_0_111 oa_12_0_111 ot_0 h (fun h => ?_)
    refine kz_inc (M := kt_M405) [(0, .ref (w_adr E.2.1 12 0)), (2, .int x2), (3, .int x3), (5, .int x5)] kX13_evalArray_c8.2.2.1 rfl (Nat.le_of_ble_eq_true rfl) ⟨⟨rfl, rfl, .inl rfl⟩, ⟨⟨rfl, rfl, .inl rfl⟩, ⟨⟨rfl, rfl, .inr rfl⟩, ⟨⟨rfl, rfl, .inl rfl⟩, trivial⟩⟩⟩⟩ rfl ?_
    refine kz_aload_n (M := kt_M405) kX13_evalArray_c8.2.2.2.1 rfl ?_
    refine kz_gfc (M := kt_M405) (x := 4104) (c := 12) (o := 0) kX13_evalArray_c8.2.2.2.2.1 wf_X13_205 (.inl rfl) ?_
    refine kz_iload (M := kt_M405) kX13_evalArray_c8.2.2.2.2.2.1 rfl ?_
    refine kz_ialdR (M := kt_M405) (n := w_n w1 12 0 32) (c := 12) (o := 0) (k := 32) (a := (E.2.1 4104)) (w_a w1 12 0 32 (x5).toNatClampNeg) kX13_evalArray_c8.2.2.2.2.2.2.1 ow_12_0_32 oa_12_0_32 ot_0 rd_n_a (rd_a_a rfl) h (fun h => ?_)
    refine kz_sti (M := kt_M405) [(0, .ref (w_adr E.2.1 12 0)), (2, .int x2), (3, .int x3), (4, .int (x4 + 1))] kX13_evalArray_c8.2.2.2.2.2.2.2.1 (Nat.le_of_ble_eq_true rfl) ⟨⟨rfl, rfl, .inl rfl⟩, ⟨⟨rfl, rfl, .inl rfl⟩, ⟨⟨rfl, rfl, .inl rfl⟩, ⟨⟨rfl, rfl, .inr rfl⟩, trivial⟩⟩⟩⟩ rfl ?_
    refine kz_goto (M := kt_M405) kX13_evalArray_c9.1 (t := 116) rfl ?_
    exact kz_weak [(0, .ref (w_adr E.2.1 12 0)), (2, .int x2), (3, .int x3), (4, .int (x4 + 1)), (5, .int (w_a w1 12 0 32 (x5).toNatClampNeg))] ⟨rfl, ⟨rfl, ⟨rfl, ⟨rfl, ⟨rfl, trivial⟩⟩⟩⟩⟩ rfl h
def zb_X13_evalArray_p0 (E : zE) (L : Nat) (Q : kx_Rs → wS → Prop) (x1 : Int32) (w : wS) : Prop := (kx_inb x1 (w_n w 12 0 26) = true ∧ (if w_a w 12 0 26 (x1).toNatClampNeg = 52 then (kx_inb x1 (w_n w 12 0 28) = true ∧ (kx_inb (w_a w 12 0 28 (x1).toNatClampNeg) (w_n w 12 0 19) = true ∧ (kx_inb x1 (w_n w 12 0 28) = true ∧ (kx_inb (w_a w 12 0 28 (x1).toNatClampNeg) (w_n w 12 0 20) = true ∧ Q (.inl none) (ws_i (ws_i w 12 0 168 ((w_i w 12 0 141) + (w_a w 12 0 19 (w_a w 12 0 28 (x1).toNatClampNeg).toNatClampNeg))) 12 0 169 (w_a w 12 0 20 (w_a w 12 0 28 (x1).toNatClampNeg).toNatClampNeg)))))) else (if w_a w 12 0 26 (x1).toNatClampNeg = 58 then (kx_inb x1 (w_n w 12 0 28) = true ∧ zw E (L - 26) kt_M405 [.ref (w_adr E.2.1 12 0), .int (w_a w 12 0 28 (x1).toNatClampNeg)] w (wk0 (fun w1 => wle w w1 → Q (.inl none) w1) (fun e w => Q (.inr e) w))) else (if w_a w 12 0 26 (x1).toNatClampNeg = 59 then zw E (L - 23) kt_M465 [.ref (w_adr E.2.1 12 0), .int x1] w (wk1 (fun v4 w3 => wle w w3 → zw E (L - 23) kt_M419 [.ref (w_adr E.2.1 12 0), .int v4] w3 (wk1 (fun v6 w5 => wle w3 w5 → zw E (L - 22) kt_M452 [.ref (w_adr E.2.1 12 0), .int v6, .int v4] w5 (wk0 (fun w7 => wle w5 w7 → (kx_inb x1 (w_n w7 12 0 28) = true ∧ zL_X13_evalArray_p116 E L Q v4 v6 0 (w_a w7 12 0 28 (x1).toNatClampNeg) w7)) (fun e w => Q (.inr e) w))) (fun e w => Q (.inr e) w))) (fun e w => Q (.inr e) w)) else (kx_inb x1 (w_n w 12 0 31) = true ∧ zw E (L - 21) kt_M540 [.ref (w_adr E.2.1 12 0), .int (w_a w 12 0 31 (x1).toNatClampNeg)] w (wk1 (fun v10 w9 => wle w w9 → zw E (L - 21) kt_M410 [.ref (w_adr E.2.1 12 0), .int v10] w9 (wk1 (fun v12 w11 => wle w9 w11 → zw E (L - 21) kt_M410 [.ref (w_adr E.2.1 12 0), .int (v10 + 1)] (ws_i w11 12 0 168 v12) (wk1 (fun v14 w13 => wle (ws_i w11 12 0 168 v12) w13 → (kx_inb x1 (w_n w13 12 0 31) = true ∧ (kx_inb (w_a w13 12 0 31 (x1).toNatClampNeg) (w_n w13 12 0 46) = true ∧ (if w_a w13 12 0 46 (w_a w13 12 0 31 (x1).toNatClampNeg).toNatClampNeg = 1 then zL_X13_evalArray_p215 E L Q 0 (ws_i w13 12 0 169 v14) else Q (.inl none) (ws_i w13 12 0 169 v14))))) (fun e w => Q (.inr e) w))) (fun e w => Q (.inr e) w))) (fun e w => Q (.inr e) w)))))))
theorem zt_X13_evalArray_p0 {E : zE} {L : Nat} {Q : kx_Rs → wS → Prop} {x1 : Int32} {w : wS} (hL : 26 ≤ L) (h : zb_X13_evalArray_p0 E L Q x1 w) : kzE E L kt_M405 0 [(0, .ref (w_adr E.2.1 12 0)), (1, .int x1)] [] w Q := by
  unfold zb_X13_evalArray_p0 at h
  refine kz_aload_n (M := kt_M405) kX13_evalArray_c0.1 rfl ?_
  refine kz_gfc (M := kt_M405) (x := 4098) (c := 12) (o := 0) kX13_evalArray_c0.2.1 wf_X13_187 (.inl rfl) ?_
  refine kz_iload_n (M := kt_M405) kX13_evalArray_c0.2.2.1 rfl ?_
  refine kz_iald (M := kt_M405) (c := 12) (o := 0) (k := 26) (a := (E.2.1 4098)) kX13_evalArray_c0.2.2.2.1 ow_12_0_26 oa_12_0_26 ot_0 h (fun h => ?_)
  refine kz_lsw (M := kt_M405) [(52, 51), (58, 40), (59, 87)] [_, _, _] 166 dX13_evalArray_p6 (by decide +kernel) (by decide +kernel) h ⟨fun h => ?_, fun h => ?_, fun h => ?_, trivial⟩ (fun h => ?_)
  · skip
    refine kz_aload_n (M := kt_M405) kX13_evalArray_c1.2.2.2.2.1 rfl ?_
    refine kz_aload_n (M := kt_M405) kX13_evalArray_c1.2.2.2.2.2.1 rfl ?_
    refine kz_gfi (M := kt_M405) (c := 12) (o := 0) kX13_evalArray_c1.2.2.2.2.2.2.1 wf_X13_1228 (.inl rfl) ?_
    refine kz_aload_n (M := kt_M405) kX13_evalArray_c1.2.2.2.2.2.2.2.1 rfl ?_
    refine kz_gfc (M := kt_M405) (x := 4091) (c := 12) (o := 0) kX13_evalArray_c2.1 wf_X13_178 (.inl rfl) ?_
    refine kz_aload_n (M := kt_M405) kX13_evalArray_c2.2.1 rfl ?_
    refine kz_gfc (M := kt_M405) (x := 4100) (c := 12) (o := 0) kX13_evalArray_c2.2.2.1 wf_X13_193 (.inl rfl) ?_
    refine kz_iload_n (M := kt_M405) kX13_evalArray_c2.2.2.2.1 rfl ?_
    refine kz_iald (M := kt_M405) (c := 12) (o := 0) (k := 28) (a := (E.2.1 4100)) kX13_evalArray_c2.2.2.2.2.1 ow_12_0_28 oa_12_0_28 ot_0 h (fun h => ?_)
    refine kz_iald (M := kt_M405) (c := 12) (o := 0) (k := 19) (a := (E.2.1 4091)) kX13_evalArray_c2.2.2.2.2.2.1 ow_12_0_19 oa_12_0_19 ot_0 h (fun h => ?_)
    refine kz_iadd (M := kt_M405) kX13_evalArray_c2.2.2.2.2.2.2.1 ?_
    refine kz_pfi (M := kt_M405) (c := 12) (o := 0) kX13_evalArray_c2.2.2.2.2.2.2.2.1 wq_X13_1231 (.inl rfl) ?_
    refine kz_aload_n (M := kt_M405) kX13_evalArray_c3.1 rfl ?_
    refine kz_aload_n (M := kt_M405) kX13_evalArray_c3.2.1 rfl ?_
    refine kz_gfc (M := kt_M405) (x := 4092) (c := 12) (o := 0) kX13_evalArray_c3.2.2.1 wf_X13_181 (.inl rfl) ?_
    refine kz_aload_n (M := kt_M405) kX13_evalArray_c3.2.2.2.1 rfl ?_
    refine kz_gfc (M := kt_M405) (x := 4100) (c := 12) (o := 0) kX13_evalArray_c3.2.2.2.2.1 wf_X13_193 (.inl rfl) ?_
    refine kz_iload_n (M := kt_M405) kX13_evalArray_c3.2.2.2.2.2.1 rfl ?_
    refine kz_ialdR (M := kt_M405) (n := w_n w 12 0 28) (c := 12) (o := 0) (k := 28) (a := (E.2.1 4100)) (w_a w 12 0 28 (x1).toNatClampNeg) kX13_evalArray_c3.2.2.2.2.2.2.1 ow_12_0_28 oa_12_0_28 ot_0 rd_n_i rd_a_i h (fun h => ?_)
    refine kz_ialdR (M := kt_M405) (n := w_n w 12 0 20) (c := 12) (o := 0) (k := 20) (a := (E.2.1 4092)) (w_a w 12 0 20 (w_a w 12 0 28 (x1).toNatClampNeg).toNatClampNeg) kX13_evalArray_c3.2.2.2.2.2.2.2.1 ow_12_0_20 oa_12_0_20 ot_0 rd_n_i rd_a_i h (fun h => ?_)
    refine kz_pfi (M := kt_M405) (c := 12) (o := 0) kX13_evalArray_c4.1 wq_X13_1234 (.inl rfl) ?_
    exact kz_ret (M := kt_M405) kX13_evalArray_c4.2.1 rfl h
  · skip
    refine kz_aload_n (M := kt_M405) kX13_evalArray_c0.2.2.2.2.2.1 rfl ?_
    refine kz_aload_n (M := kt_M405) kX13_evalArray_c0.2.2.2.2.2.2.1 rfl ?_
    refine kz_gfc (M := kt_M405) (x := 4100) (c := 12) (o := 0) kX13_evalArray_c0.2.2.2.2.2.2.2.1 wf_X13_193 (.inl rfl) ?_
    refine kz_iload_n (M := kt_M405) kX13_evalArray_c1.1 rfl ?_
    refine kz_iald (M := kt_M405) (c := 12) (o := 0) (k := 28) (a := (E.2.1 4100)) kX13_evalArray_c1.2.1 ow_12_0_28 oa_12_0_28 ot_0 h (fun h => ?_)
    refine kz_cv0 (M := kt_M405) (c := 12) (o := 0) (As := [.int (w_a w 12 0 28 (x1).toNatClampNeg)]) (rest := []) kX13_evalArray_c1.2.2.1 wl_X13_1225 wMv_405 rfl (.inl rfl) rfl (Nat.le_trans (Nat.le_of_ble_eq_true rfl) hL) (Nat.le_of_ble_eq_true rfl) (Nat.le_of_ble_eq_true rfl) h (fun w1 hle h => ?_) (fun _ _ _ h => kzx_no rfl h)
    have h := h hle
    exact kz_ret (M := kt_M405) kX13_evalArray_c1.2.2.2.1 rfl h
  · skip
    refine kz_aload_n (M := kt_M405) kX13_evalArray_c4.2.2.1 rfl ?_
    refine kz_iload_n (M := kt_M405) kX13_evalArray_c4.2.2.2.1 rfl ?_
    refine kz_cv1 (M := kt_M405) (c := 12) (o := 0) (As := [.int x1]) (rest := []) kX13_evalArray_c4.2.2.2.2.1 wl_X13_819 wMv_465 rfl (.inl rfl) rfl (Nat.le_trans (Nat.le_of_ble_eq_true rfl) hL) (Nat.le_of_ble_eq_true rfl) (Nat.le_of_ble_eq_true rfl) h (fun v4 w3 hle h => ?_) (fun _ _ _ h => kzx_no rfl h)
    have h := h hle
    refine kz_sti_n (M := kt_M405) [(0, .ref (w_adr E.2.1 12 0)), (1, .int x1)] kX13_evalArray_c4.2.2.2.2.2.1 (Nat.le_of_ble_eq_true rfl) ⟨⟨rfl, rfl, .inl rfl⟩, ⟨⟨rfl, rfl, .inr rfl⟩, trivial⟩⟩ rfl ?_
    refine kz_aload_n (M := kt_M405) kX13_evalArray_c4.2.2.2.2.2.2.1 rfl ?_
    refine kz_iload_n (M := kt_M405) kX13_evalArray_c4.2.2.2.2.2.2.2.1 rfl ?_
    refine kz_cv1 (M := kt_M405) (c := 12) (o := 0) (As := [.int v4]) (rest := []) kX13_evalArray_c5.1 wl_X13_1237 wMv_419 rfl (.inl rfl) rfl (Nat.le_trans (Nat.le_of_ble_eq_true rfl) hL) (Nat.le_of_ble_eq_true rfl) (Nat.le_of_ble_eq_true rfl) h (fun v6 w5 hle h => ?_) (fun _ _ _ h => kzx_no rfl h)
    have h := h hle
    refine kz_sti_n (M := kt_M405) [(0, .ref (w_adr E.2.1 12 0)), (1, .int x1), (2, .int v4)] kX13_evalArray_c5.2.1 (Nat.le_of_ble_eq_true rfl) ⟨⟨rfl, rfl, .inl rfl⟩, ⟨⟨rfl, rfl, .inl rfl⟩, ⟨⟨rfl, rfl, .inr rfl⟩, trivial⟩⟩⟩ rfl ?_
    refine kz_aload_n (M := kt_M405) kX13_evalArray_c5.2.2.1 rfl ?_
    refine kz_iload_n (M := kt_M405) kX13_evalArray_c5.2.2.2.1 rfl ?_
    refine kz_iload_n (M := kt_M405) kX13_evalArray_c5.2.2.2.2.1 rfl ?_
    refine kz_cv0 (M := kt_M405) (c := 12) (o := 0) (As := [.int v6, .int v4]) (rest := []) kX13_evalArray_c5.2.2.2.2.2.1 wl_X13_1240 wMv_452 rfl (.inl rfl) rfl (Nat.le_trans (Nat.le_of_ble_eq_true rfl) hL) (Nat.le_of_ble_eq_true rfl) (Nat.le_of_ble_eq_true rfl) h (fun w7 hle h => ?_) (fun _ _ _ h => kzx_no rfl h)
    have h := h hle
    refine kz_ic (M := kt_M405) 0 kX13_evalArray_c5.2.2.2.2.2.2.1 rfl ?_
    refine kz_sti (M := kt_M405) [(0, .ref (w_adr E.2.1 12 0)), (1, .int x1), (2, .int v4), (3, .int v6)] kX13_evalArray_c5.2.2.2.2.2.2.2.1 (Nat.le_of_ble_eq_true rfl) ⟨⟨rfl, rfl, .inl rfl⟩, ⟨⟨rfl, rfl, .inl rfl⟩, ⟨⟨rfl, rfl, .inl rfl⟩, ⟨⟨rfl, rfl, .inr rfl⟩, trivial⟩⟩⟩⟩ rfl ?_
    refine kz_aload_n (M := kt_M405) kX13_evalArray_c6.1 rfl ?_
    refine kz_gfc (M := kt_M405) (x := 4100) (c := 12) (o := 0) kX13_evalArray_c6.2.1 wf_X13_193 (.inl rfl) ?_
    refine kz_iload_n (M := kt_M405) kX13_evalArray_c6.2.2.1 rfl ?_
    refine kz_iald (M := kt_M405) (c := 12) (o := 0) (k := 28) (a := (E.2.1 4100)) kX13_evalArray_c6.2.2.2.1 ow_12_0_28 oa_12_0_28 ot_0 h (fun h => ?_)
    refine kz_sti (M := kt_M405) [(0, .ref (w_adr E.2.1 12 0)), (2, .int v4), (3, .int v6), (4, .int 0)] kX13_evalArray_c6.2.2.2.2.1 (Nat.le_of_ble_eq_true rfl) ⟨⟨rfl, rfl, .inl rfl⟩, ⟨⟨rfl, rfl, .inl rfl⟩, ⟨⟨rfl, rfl, .inl rfl⟩, ⟨⟨rfl, rfl, .inr rfl⟩, trivial⟩⟩⟩⟩ rfl ?_
    exact kz_weak [(0, .ref (w_adr E.2.1 12 0)), (2, .int v4), (3, .int v6), (4, .int 0), (5, .int (w_a w7 12 0 28 (x1).toNatClampNeg))] ⟨rfl, ⟨rfl, ⟨rfl, ⟨rfl, ⟨rfl, trivial⟩⟩⟩⟩⟩ rfl h
  · skip
    refine kz_aload_n (M := kt_M405) kX13_evalArray_c10.1 rfl ?_
    refine kz_aload_n (M := kt_M405) kX13_evalArray_c10.2.1 rfl ?_
    refine kz_gfc (M := kt_M405) (x := 4103) (c := 12) (o := 0) kX13_evalArray_c10.2.2.1 wf_X13_202 (.inl rfl) ?_
    refine kz_iload_n (M := kt_M405) kX13_evalArray_c10.2.2.2.1 rfl ?_
    refine kz_iald (M := kt_M405) (c := 12) (o := 0) (k := 31) (a := (E.2.1 4103)) kX13_evalArray_c10.2.2.2.2.1 ow_12_0_31 oa_12_0_31 ot_0 h (fun h => ?_)
    refine kz_cv1 (M := kt_M405) (c := 12) (o := 0) (As := [.int (w_a w 12 0 31 (x1).toNatClampNeg)]) (rest := []) kX13_evalArray_c10.2.2.2.2.2.1 wl_X13_1210 wMv_540 rfl (.inl rfl) rfl (Nat.le_trans (Nat.le_of_ble_eq_true rfl) hL) (Nat.le_of_ble_eq_true rfl) (Nat.le_of_ble_eq_true rfl) h (fun v10 w9 hle h => ?_) (fun _ _ _ h => kzx_no rfl h)
    have h := h hle
    refine kz_sti_n (M := kt_M405) [(0, .ref (w_adr E.2.1 12 0)), (1, .int x1)] kX13_evalArray_c10.2.2.2.2.2.2.1 (Nat.le_of_ble_eq_true rfl) ⟨⟨rfl, rfl, .inl rfl⟩, ⟨⟨rfl, rfl, .inr rfl⟩, trivial⟩⟩ rfl ?_
    refine kz_aload_n (M := kt_M405) kX13_evalArray_c10.2.2.2.2.2.2.2.1 rfl ?_
    refine kz_aload_n (M := kt_M405) kX13_evalArray_c11.1 rfl ?_
    refine kz_iload_n (M := kt_M405) kX13_evalArray_c11.2.1 rfl ?_
    refine kz_cv1 (M := kt_M405) (c := 12) (o := 0) (As := [.int v10]) (rest := [.ref (w_adr E.2.1 12 0)]) kX13_evalArray_c11.2.2.1 wl_X13_1177 wMv_410 rfl (.inl rfl) rfl (Nat.le_trans (Nat.le_of_ble_eq_true rfl) hL) (Nat.le_of_ble_eq_true rfl) (Nat.le_of_ble_eq_true rfl) h (fun v12 w11 hle h => ?_) (fun _ _ _ h => kzx_no rfl h)
    have h := h hle
    refine kz_pfi (M := kt_M405) (c := 12) (o := 0) kX13_evalArray_c11.2.2.2.1 wq_X13_1231 (.inl rfl) ?_
    refine kz_aload_n (M := kt_M405) kX13_evalArray_c11.2.2.2.2.1 rfl ?_
    refine kz_aload_n (M := kt_M405) kX13_evalArray_c11.2.2.2.2.2.1 rfl ?_
    refine kz_iload_n (M := kt_M405) kX13_evalArray_c11.2.2.2.2.2.2.1 rfl ?_
    refine kz_ic (M := kt_M405) 1 kX13_evalArray_c11.2.2.2.2.2.2.2.1 rfl ?_
    refine kz_iadd (M := kt_M405) kX13_evalArray_c12.1 ?_
    refine kz_cv1 (M := kt_M405) (c := 12) (o := 0) (As := [.int (v10 + 1)]) (rest := [.ref (w_adr E.2.1 12 0)]) kX13_evalArray_c12.2.1 wl_X13_1177 wMv_410 rfl (.inl rfl) rfl (Nat.le_trans (Nat.le_of_ble_eq_true rfl) hL) (Nat.le_of_ble_eq_true rfl) (Nat.le_of_ble_eq_true rfl) h (fun v14 w13 hle h => ?_) (fun _ _ _ h => kzx_no rfl h)
    have h := h hle
    refine kz_pfi (M := kt_M405) (c := 12) (o := 0) kX13_evalArray_c12.2.2.1 wq_X13_1234 (.inl rfl) ?_
    refine kz_aload_n (M := kt_M405) kX13_evalArray_c12.2.2.2.1 rfl ?_
    refine kz_gfc (M := kt_M405) (x := 4118) (c := 12) (o := 0) kX13_evalArray_c12.2.2.2.2.1 wf_X13_223 (.inl rfl) ?_
    refine kz_aload_n (M := kt_M405) kX13_evalArray_c12.2.2.2.2.2.1 rfl ?_
    refine kz_gfc (M := kt_M405) (x := 4103) (c := 12) (o := 0) kX13_evalArray_c12.2.2.2.2.2.2.1 wf_X13_202 (.inl rfl) ?_
    refine kz_iload_n (M := kt_M405) kX13_evalArray_c12.2.2.2.2.2.2.2.1 rfl ?_
    refine kz_ialdR (M := kt_M405) (n := w_n w13 12 0 31) (c := 12) (o := 0) (k := 31) (a := (E.2.1 4103)) (w_a w13 12 0 31 (x1).toNatClampNeg) kX13_evalArray_c13.1 ow_12_0_31 oa_12_0_31 ot_0 rd_n_i rd_a_i h (fun h => ?_)
    refine kz_ialdR (M := kt_M405) (n := w_n w13 12 0 46) (c := 12) (o := 0) (k := 46) (a := (E.2.1 4118)) (w_a w13 12 0 46 (w_a w13 12 0 31 (x1).toNatClampNeg).toNatClampNeg) kX13_evalArray_c13.2.1 ow_12_0_46 oa_12_0_46 ot_0 rd_n_i rd_a_i h (fun h => ?_)
    refine kz_ic (M := kt_M405) 1 kX13_evalArray_c13.2.2.1 rfl ?_
    refine kz_icmp_eq (M := kt_M405) kX13_evalArray_c13.2.2.2.1 (t := 213) rfl h (fun h => ?_) (fun h => ?_)
    · skip
      refine kz_ic (M := kt_M405) 0 kX13_evalArray_c13.2.2.2.2.2.1 rfl ?_
      refine kz_sti_n (M := kt_M405) [(0, .ref (w_adr E.2.1 12 0))] kX13_evalArray_c13.2.2.2.2.2.2.1 (Nat.le_of_ble_eq_true rfl) ⟨⟨rfl, rfl, .inl rfl⟩, trivial⟩ rfl ?_
      exact kz_weak [(0, .ref (w_adr E.2.1 12 0)), (3, .int 0)] ⟨rfl, ⟨rfl, trivial⟩⟩ rfl h
    · skip
      exact kz_ret (M := kt_M405) kX13_evalArray_c13.2.2.2.2.1 rfl h
def zL_X13_eval_p246 (E : zE) (L : Nat) (Q : kx_Rs → wS → Prop) (x2 : Int32) (x3 : Int32) (x4 : Int32) (w : wS) : Prop := kzE E L kt_M404 246 [(0, .ref (w_adr E.2.1 12 0)), (2, .int x2), (3, .int x3), (4, .int x4)] [] w Q
def zL_X13_eval_p2 (E : zE) (L : Nat) (Q : kx_Rs → wS → Prop) (x2 : Int32) (w : wS) : Prop := kzE E L kt_M404 2 [(0, .ref (w_adr E.2.1 12 0)), (2, .int x2)] [] w Q
def zb_X13_eval_p424 (E : zE) (L : Nat) (Q : kx_Rs → wS → Prop) (y0 : Int32) (w : wS) : Prop := Q (.inl (some (.int y0))) w
theorem zt_X13_eval_p424 {E : zE} {L : Nat} {Q : kx_Rs → wS → Prop} {y0 : Int32} {w : wS} (hL : 25 ≤ L) (h : zb_X13_eval_p424 E L Q y0 w) : kzE E L kt_M404 424 [(0, .ref (w_adr E.2.1 12 0))] [.int y0] w Q := by
  unfold zb_X13_eval_p424 at h
  exact kz_iret (M := kt_M404) kX13_eval_c25.2.2.2.2.1 rfl rfl h
def zb_X13_eval_p387 (E : zE) (L : Nat) (Q : kx_Rs → wS → Prop) (y0 : Int32) (w : wS) : Prop := Q (.inl (some (.int y0))) w
theorem zt_X13_eval_p387 {E : zE} {L : Nat} {Q : kx_Rs → wS → Prop} {y0 : Int32} {w : wS} (hL : 25 ≤ L) (h : zb_X13_eval_p387 E L Q y0 w) : kzE E L kt_M404 387 [(0, .ref (w_adr E.2.1 12 0))] [.int y0] w Q := by
  unfold zb_X13_eval_p387 at h
  exact kz_iret (M := kt_M404) kX13_eval_c23.1 rfl rfl h
def zb_X13_eval_p331 (E : zE) (L : Nat) (Q : kx_Rs → wS → Prop) (y0 : Int32) (w : wS) : Prop := Q (.inl (some (.int y0))) w
theorem zt_X13_eval_p331 {E : zE} {L : Nat} {Q : kx_Rs → wS → Prop} {y0 : Int32} {w : wS} (hL : 25 ≤ L) (h : zb_X13_eval_p331 E L Q y0 w) : kzE E L kt_M404 331 [(0, .ref (w_adr E.2.1 12 0))] [.int y0] w Q := by
  unfold zb_X13_eval_p331 at h
  exact kz_iret (M := kt_M404) kX13_eval_c18.2.2.2.2.2.2.2.1 rfl rfl h
def zb_X13_eval_p309 (E : zE) (L : Nat) (Q : kx_Rs → wS → Prop) (x2 : Int32) (x4 : Int32) (y0 : Int32) (w : wS) : Prop := (kx_inb x4 (w_n w 12 0 32) = true ∧ zL_X13_eval_p246 E L Q x2 y0 (w_a w 12 0 32 (x4).toNatClampNeg) w)
theorem zt_X13_eval_p309 {E : zE} {L : Nat} {Q : kx_Rs → wS → Prop} {x2 : Int32} {x4 : Int32} {y0 : Int32} {w : wS} (hL : 25 ≤ L) (h : zb_X13_eval_p309 E L Q x2 x4 y0 w) : kzE E L kt_M404 309 [(0, .ref (w_adr E.2.1 12 0)), (2, .int x2), (4, .int x4)] [.int y0] w Q := by
  unfold zb_X13_eval_p309 at h
  refine kz_sti_n (M := kt_M404) [(0, .ref (w_adr E.2.1 12 0)), (2, .int x2), (4, .int x4)] kX13_eval_c17.2.2.2.1 (Nat.le_of_ble_eq_true rfl) ⟨⟨rfl, rfl, .inl rfl⟩, ⟨⟨rfl, rfl, .inr rfl⟩, ⟨⟨rfl, rfl, .inl rfl⟩, trivial⟩⟩⟩ rfl ?_
  refine kz_aload_n (M := kt_M404) kX13_eval_c17.2.2.2.2.1 rfl ?_
  refine kz_gfc (M := kt_M404) (x := 4104) (c := 12) (o := 0) kX13_eval_c17.2.2.2.2.2.1 wf_X13_205 (.inl rfl) ?_
  refine kz_iload (M := kt_M404) kX13_eval_c17.2.2.2.2.2.2.1 rfl ?_
  refine kz_iald (M := kt_M404) (c := 12) (o := 0) (k := 32) (a := (E.2.1 4104)) kX13_eval_c17.2.2.2.2.2.2.2.1 ow_12_0_32 oa_12_0_32 ot_0 h (fun h => ?_)
  refine kz_sti (M := kt_M404) [(0, .ref (w_adr E.2.1 12 0)), (2, .int x2), (3, .int y0)] kX13_eval_c18.1 (Nat.le_of_ble_eq_true rfl) ⟨⟨rfl, rfl, .inl rfl⟩, ⟨⟨rfl, rfl, .inl rfl⟩, ⟨⟨rfl, rfl, .inr rfl⟩, trivial⟩⟩⟩ rfl ?_
  refine kz_goto (M := kt_M404) kX13_eval_c18.2.1 (t := 246) rfl ?_
  exact kz_weak [(0, .ref (w_adr E.2.1 12 0)), (2, .int x2), (3, .int y0), (4, .int (w_a w 12 0 32 (x4).toNatClampNeg))] ⟨rfl, ⟨rfl, ⟨rfl, ⟨rfl, trivial⟩⟩⟩⟩ rfl h
def zb_X13_eval_p304 (E : zE) (L : Nat) (Q : kx_Rs → wS → Prop) (x2 : Int32) (x4 : Int32) (w : wS) : Prop := zb_X13_eval_p309 E L Q x2 x4 1 w
theorem zt_X13_eval_p304 {E : zE} {L : Nat} {Q : kx_Rs → wS → Prop} {x2 : Int32} {x4 : Int32} {w : wS} (hL : 25 ≤ L) (h : zb_X13_eval_p304 E L Q x2 x4 w) : kzE E L kt_M404 304 [(0, .ref (w_adr E.2.1 12 0)), (2, .int x2), (4, .int x4)] [] w Q := by
  unfold zb_X13_eval_p304 at h
  refine kz_ic (M := kt_M404) 1 kX13_eval_c17.1 rfl ?_
  refine kz_goto (M := kt_M404) kX13_eval_c17.2.1 (t := 309) rfl ?_
  exact kz_weak [(0, .ref (w_adr E.2.1 12 0)), (2, .int x2), (4, .int x4)] ⟨rfl, ⟨rfl, ⟨rfl, trivial⟩⟩⟩ rfl (zt_X13_eval_p309 hL  h)
def zb_X13_eval_p291 (E : zE) (L : Nat) (Q : kx_Rs → wS → Prop) (x2 : Int32) (x4 : Int32) (w : wS) : Prop := zb_X13_eval_p309 E L Q x2 x4 0 w
theorem zt_X13_eval_p291 {E : zE} {L : Nat} {Q : kx_Rs → wS → Prop} {x2 : Int32} {x4 : Int32} {w : wS} (hL : 25 ≤ L) (h : zb_X13_eval_p291 E L Q x2 x4 w) : kzE E L kt_M404 291 [(0, .ref (w_adr E.2.1 12 0)), (2, .int x2), (4, .int x4)] [] w Q := by
  unfold zb_X13_eval_p291 at h
  refine kz_ic (M := kt_M404) 0 kX13_eval_c16.2.2.1 rfl ?_
  refine kz_goto (M := kt_M404) kX13_eval_c16.2.2.2.1 (t := 309) rfl ?_
  exact kz_weak [(0, .ref (w_adr E.2.1 12 0)), (2, .int x2), (4, .int x4)] ⟨rfl, ⟨rfl, ⟨rfl, trivial⟩⟩⟩ rfl (zt_X13_eval_p309 hL  h)
def zb_X13_eval_p266 (E : zE) (L : Nat) (Q : kx_Rs → wS → Prop) (x2 : Int32) (x3 : Int32) (x4 : Int32) (y0 : Int32) (w : wS) : Prop := (kx_inb x2 (w_n w 12 0 29) = true ∧ (if ¬ w_a w 12 0 29 (x2).toNatClampNeg = 2 then (if ¬ x3 = 0 then zb_X13_eval_p304 E L Q x2 x4 w else (if y0 = 0 then zb_X13_eval_p309 E L Q x2 x4 0 w else zb_X13_eval_p304 E L Q x2 x4 w)) else (if x3 = 0 then zb_X13_eval_p291 E L Q x2 x4 w else (if y0 = 0 then zb_X13_eval_p291 E L Q x2 x4 w else zb_X13_eval_p309 E L Q x2 x4 1 w))))
theorem zt_X13_eval_p266 {E : zE} {L : Nat} {Q : kx_Rs → wS → Prop} {x2 : Int32} {x3 : Int32} {x4 : Int32} {y0 : Int32} {w : wS} (hL : 25 ≤ L) (h : zb_X13_eval_p266 E L Q x2 x3 x4 y0 w) : kzE E L kt_M404 266 [(0, .ref (w_adr E.2.1 12 0)), (2, .int x2), (3, .int x3), (4, .int x4)] [.int y0] w Q := by
  unfold zb_X13_eval_p266 at h
  refine kz_sti (M := kt_M404) [(0, .ref (w_adr E.2.1 12 0)), (2, .int x2), (3, .int x3), (4, .int x4)] kX13_eval_c14.2.2.2.2.2.1 (Nat.le_of_ble_eq_true rfl) ⟨⟨rfl, rfl, .inl rfl⟩, ⟨⟨rfl, rfl, .inl rfl⟩, ⟨⟨rfl, rfl, .inl rfl⟩, ⟨⟨rfl, rfl, .inr rfl⟩, trivial⟩⟩⟩⟩ rfl ?_
  refine kz_aload_n (M := kt_M404) kX13_eval_c14.2.2.2.2.2.2.1 rfl ?_
  refine kz_gfc (M := kt_M404) (x := 4101) (c := 12) (o := 0) kX13_eval_c14.2.2.2.2.2.2.2.1 wf_X13_196 (.inl rfl) ?_
  refine kz_iload_n (M := kt_M404) kX13_eval_c15.1 rfl ?_
  refine kz_iald (M := kt_M404) (c := 12) (o := 0) (k := 29) (a := (E.2.1 4101)) kX13_eval_c15.2.1 ow_12_0_29 oa_12_0_29 ot_0 h (fun h => ?_)
  refine kz_ic (M := kt_M404) 2 kX13_eval_c15.2.2.1 rfl ?_
  refine kz_icmp_ne (M := kt_M404) kX13_eval_c15.2.2.2.1 (t := 295) rfl h (fun h => ?_) (fun h => ?_)
  · skip
    refine kz_iload_n (M := kt_M404) kX13_eval_c16.2.2.2.2.1 rfl ?_
    refine kz_if_ne (M := kt_M404) kX13_eval_c16.2.2.2.2.2.1 (t := 304) rfl h (fun h => ?_) (fun h => ?_)
    · skip
      exact kz_weak [(0, .ref (w_adr E.2.1 12 0)), (2, .int x2), (4, .int x4)] ⟨rfl, ⟨rfl, ⟨rfl, trivial⟩⟩⟩ rfl (zt_X13_eval_p304 hL  h)
    · skip
      refine kz_iload (M := kt_M404) kX13_eval_c16.2.2.2.2.2.2.1 rfl ?_
      refine kz_if_eq (M := kt_M404) kX13_eval_c16.2.2.2.2.2.2.2.1 (t := 308) rfl h (fun h => ?_) (fun h => ?_)
      · skip
        refine kz_ic (M := kt_M404) 0 kX13_eval_c17.2.2.1 rfl ?_
        exact kz_weak [(0, .ref (w_adr E.2.1 12 0)), (2, .int x2), (4, .int x4)] ⟨rfl, ⟨rfl, ⟨rfl, trivial⟩⟩⟩ rfl (zt_X13_eval_p309 hL  h)
      · skip
        exact kz_weak [(0, .ref (w_adr E.2.1 12 0)), (2, .int x2), (4, .int x4)] ⟨rfl, ⟨rfl, ⟨rfl, trivial⟩⟩⟩ rfl (zt_X13_eval_p304 hL  h)
  · skip
    refine kz_iload_n (M := kt_M404) kX13_eval_c15.2.2.2.2.1 rfl ?_
    refine kz_if_eq (M := kt_M404) kX13_eval_c15.2.2.2.2.2.1 (t := 291) rfl h (fun h => ?_) (fun h => ?_)
    · skip
      exact kz_weak [(0, .ref (w_adr E.2.1 12 0)), (2, .int x2), (4, .int x4)] ⟨rfl, ⟨rfl, ⟨rfl, trivial⟩⟩⟩ rfl (zt_X13_eval_p291 hL  h)
    · skip
      refine kz_iload (M := kt_M404) kX13_eval_c15.2.2.2.2.2.2.1 rfl ?_
      refine kz_if_eq (M := kt_M404) kX13_eval_c15.2.2.2.2.2.2.2.1 (t := 291) rfl h (fun h => ?_) (fun h => ?_)
      · skip
        exact kz_weak [(0, .ref (w_adr E.2.1 12 0)), (2, .int x2), (4, .int x4)] ⟨rfl, ⟨rfl, ⟨rfl, trivial⟩⟩⟩ rfl (zt_X13_eval_p291 hL  h)
      · skip
        refine kz_ic (M := kt_M404) 1 kX13_eval_c16.1 rfl ?_
        refine kz_goto (M := kt_M404) kX13_eval_c16.2.1 (t := 309) rfl ?_
        exact kz_weak [(0, .ref (w_adr E.2.1 12 0)), (2, .int x2), (4, .int x4)] ⟨rfl, ⟨rfl, ⟨rfl, trivial⟩⟩⟩ rfl (zt_X13_eval_p309 hL  h)
def zb_X13_eval_p246 (E : zE) (L : Nat) (Q : kx_Rs → wS → Prop) (x2 : Int32) (x3 : Int32) (x4 : Int32) (w : wS) : Prop := (if x4 < 0 then (if x3 = 0 then zb_X13_eval_p331 E L Q 0 w else zb_X13_eval_p331 E L Q 1 w) else zw E (L - 25) kt_M404 [.ref (w_adr E.2.1 12 0), .int x4] w (wk1 (fun v2 w1 => wle w w1 → (if ¬ v2 = 1 then zb_X13_eval_p266 E L Q x2 x3 x4 0 w1 else zb_X13_eval_p266 E L Q x2 x3 x4 1 w1)) (fun e w => Q (.inr e) w)))
theorem zt_X13_eval_p246 {E : zE} {L : Nat} {Q : kx_Rs → wS → Prop} {x2 : Int32} {x3 : Int32} {x4 : Int32} {w : wS} (hL : 25 ≤ L) (h : zb_X13_eval_p246 E L Q x2 x3 x4 w) : kzE E L kt_M404 246 [(0, .ref (w_adr E.2.1 12 0)), (2, .int x2), (3, .int x3), (4, .int x4)] [] w Q := by
  unfold zb_X13_eval_p246 at h
  refine kz_iload (M := kt_M404) kX13_eval_c13.2.2.2.1 rfl ?_
  refine kz_if_lt (M := kt_M404) kX13_eval_c13.2.2.2.2.1 (t := 322) rfl h (fun h => ?_) (fun h => ?_)
  · skip
    refine kz_iload_n (M := kt_M404) kX13_eval_c18.2.2.1 rfl ?_
    refine kz_if_eq (M := kt_M404) kX13_eval_c18.2.2.2.1 (t := 330) rfl h (fun h => ?_) (fun h => ?_)
    · skip
      refine kz_ic (M := kt_M404) 0 kX13_eval_c18.2.2.2.2.2.2.1 rfl ?_
      exact kz_weak [(0, .ref (w_adr E.2.1 12 0))] ⟨rfl, trivial⟩ rfl (zt_X13_eval_p331 hL  h)
    · skip
      refine kz_ic (M := kt_M404) 1 kX13_eval_c18.2.2.2.2.1 rfl ?_
      refine kz_goto (M := kt_M404) kX13_eval_c18.2.2.2.2.2.1 (t := 331) rfl ?_
      exact kz_weak [(0, .ref (w_adr E.2.1 12 0))] ⟨rfl, trivial⟩ rfl (zt_X13_eval_p331 hL  h)
  · skip
    refine kz_aload_n (M := kt_M404) kX13_eval_c13.2.2.2.2.2.1 rfl ?_
    refine kz_iload (M := kt_M404) kX13_eval_c13.2.2.2.2.2.2.1 rfl ?_
    refine kz_cv1 (M := kt_M404) (c := 12) (o := 0) (As := [.int x4]) (rest := []) kX13_eval_c13.2.2.2.2.2.2.2.1 wl_X13_1207 wMv_404 rfl (.inl rfl) rfl (Nat.le_trans (Nat.le_of_ble_eq_true rfl) hL) (Nat.le_of_ble_eq_true rfl) (Nat.le_of_ble_eq_true rfl) h (fun v2 w1 hle h => ?_) (fun _ _ _ h => kzx_no rfl h)
    have h := h hle
    refine kz_ic (M := kt_M404) 1 kX13_eval_c14.1 rfl ?_
    refine kz_icmp_ne (M := kt_M404) kX13_eval_c14.2.1 (t := 265) rfl h (fun h => ?_) (fun h => ?_)
    · skip
      refine kz_ic (M := kt_M404) 0 kX13_eval_c14.2.2.2.2.1 rfl ?_
      exact kz_weak [(0, .ref (w_adr E.2.1 12 0)), (2, .int x2), (3, .int x3), (4, .int x4)] ⟨rfl, ⟨rfl, ⟨rfl, ⟨rfl, trivial⟩⟩⟩⟩ rfl (zt_X13_eval_p266 hL  h)
    · skip
      refine kz_ic (M := kt_M404) 1 kX13_eval_c14.2.2.1 rfl ?_
      refine kz_goto (M := kt_M404) kX13_eval_c14.2.2.2.1 (t := 266) rfl ?_
      exact kz_weak [(0, .ref (w_adr E.2.1 12 0)), (2, .int x2), (3, .int x3), (4, .int x4)] ⟨rfl, ⟨rfl, ⟨rfl, ⟨rfl, trivial⟩⟩⟩⟩ rfl (zt_X13_eval_p266 hL  h)
def zb_X13_eval_p237 (E : zE) (L : Nat) (Q : kx_Rs → wS → Prop) (x2 : Int32) (y0 : Int32) (w : wS) : Prop := (kx_inb x2 (w_n w 12 0 28) = true ∧ zL_X13_eval_p246 E L Q x2 y0 (w_a w 12 0 28 (x2).toNatClampNeg) w)
theorem zt_X13_eval_p237 {E : zE} {L : Nat} {Q : kx_Rs → wS → Prop} {x2 : Int32} {y0 : Int32} {w : wS} (hL : 25 ≤ L) (h : zb_X13_eval_p237 E L Q x2 y0 w) : kzE E L kt_M404 237 [(0, .ref (w_adr E.2.1 12 0)), (2, .int x2)] [.int y0] w Q := by
  unfold zb_X13_eval_p237 at h
  refine kz_sti_n (M := kt_M404) [(0, .ref (w_adr E.2.1 12 0)), (2, .int x2)] kX13_eval_c12.2.2.2.2.2.1 (Nat.le_of_ble_eq_true rfl) ⟨⟨rfl, rfl, .inl rfl⟩, ⟨⟨rfl, rfl, .inr rfl⟩, trivial⟩⟩ rfl ?_
  refine kz_aload_n (M := kt_M404) kX13_eval_c12.2.2.2.2.2.2.1 rfl ?_
  refine kz_gfc (M := kt_M404) (x := 4100) (c := 12) (o := 0) kX13_eval_c12.2.2.2.2.2.2.2.1 wf_X13_193 (.inl rfl) ?_
  refine kz_iload_n (M := kt_M404) kX13_eval_c13.1 rfl ?_
  refine kz_iald (M := kt_M404) (c := 12) (o := 0) (k := 28) (a := (E.2.1 4100)) kX13_eval_c13.2.1 ow_12_0_28 oa_12_0_28 ot_0 h (fun h => ?_)
  refine kz_sti (M := kt_M404) [(0, .ref (w_adr E.2.1 12 0)), (2, .int x2), (3, .int y0)] kX13_eval_c13.2.2.1 (Nat.le_of_ble_eq_true rfl) ⟨⟨rfl, rfl, .inl rfl⟩, ⟨⟨rfl, rfl, .inl rfl⟩, ⟨⟨rfl, rfl, .inr rfl⟩, trivial⟩⟩⟩ rfl ?_
  exact kz_weak [(0, .ref (w_adr E.2.1 12 0)), (2, .int x2), (3, .int y0), (4, .int (w_a w 12 0 28 (x2).toNatClampNeg))] ⟨rfl, ⟨rfl, ⟨rfl, ⟨rfl, trivial⟩⟩⟩⟩ rfl h
def zb_X13_eval_p188 (E : zE) (L : Nat) (Q : kx_Rs → wS → Prop) (y0 : Int32) (w : wS) : Prop := Q (.inl (some (.int y0))) w
theorem zt_X13_eval_p188 {E : zE} {L : Nat} {Q : kx_Rs → wS → Prop} {y0 : Int32} {w : wS} (hL : 25 ≤ L) (h : zb_X13_eval_p188 E L Q y0 w) : kzE E L kt_M404 188 [(0, .ref (w_adr E.2.1 12 0))] [.int y0] w Q := by
  unfold zb_X13_eval_p188 at h
  exact kz_iret (M := kt_M404) kX13_eval_c8.2.2.2.2.2.2.1 rfl rfl h
def zb_X13_eval_p2 (E : zE) (L : Nat) (Q : kx_Rs → wS → Prop) (x2 : Int32) (w : wS) : Prop := (kx_inb x2 (w_n w 12 0 26) = true ∧ (if ¬ w_a w 12 0 26 (x2).toNatClampNeg = 58 then (kx_inb x2 (w_n w 12 0 26) = true ∧ (if w_a w 12 0 26 (x2).toNatClampNeg = 50 then (kx_inb x2 (w_n w 12 0 28) = true ∧ Q (.inl (some (.int (w_a w 12 0 28 (x2).toNatClampNeg)))) w) else (if w_a w 12 0 26 (x2).toNatClampNeg = 51 then (kx_inb x2 (w_n w 12 0 28) = true ∧ Q (.inl (some (.int (w_a w 12 0 28 (x2).toNatClampNeg)))) w) else (if w_a w 12 0 26 (x2).toNatClampNeg = 53 then Q (.inl (some (.int 1))) w else (if w_a w 12 0 26 (x2).toNatClampNeg = 54 then Q (.inl (some (.int 0))) w else (if w_a w 12 0 26 (x2).toNatClampNeg = 55 then Q (.inl (some (.int 2147483647))) w else (if w_a w 12 0 26 (x2).toNatClampNeg = 56 then Q (.inl (some (.int (-2147483648)))) w else (if w_a w 12 0 26 (x2).toNatClampNeg = 57 then (kx_inb x2 (w_n w 12 0 28) = true ∧ zw E (L - 25) kt_M404 [.ref (w_adr E.2.1 12 0), .int (w_a w 12 0 28 (x2).toNatClampNeg)] w (wk1 (fun v2 w1 => wle w w1 → (kx_inb x2 (w_n w1 12 0 29) = true ∧ zw E (L - 22) kt_M378 [.ref (w_adr E.2.1 12 0), .int v2, .int (w_a w1 12 0 29 (x2).toNatClampNeg)] w1 (wk1 (fun v4 w3 => wle w1 w3 → Q (.inl (some (.int v4))) w3) (fun e w => Q (.inr e) w)))) (fun e w => Q (.inr e) w))) else (if w_a w 12 0 26 (x2).toNatClampNeg = 61 then zw E (L - 25) kt_M363 [.ref (w_adr E.2.1 12 0), .int x2] w (wk1 (fun v6 w5 => wle w w5 → Q (.inl (some (.int v6))) w5) (fun e w => Q (.inr e) w)) else (if w_a w 12 0 26 (x2).toNatClampNeg = 62 then (kx_inb x2 (w_n w 12 0 29) = true ∧ (if ¬ w_a w 12 0 29 (x2).toNatClampNeg = 27 then (kx_inb x2 (w_n w 12 0 29) = true ∧ (kx_inb x2 (w_n w 12 0 28) = true ∧ zw E (L - 25) kt_M404 [.ref (w_adr E.2.1 12 0), .int (w_a w 12 0 28 (x2).toNatClampNeg)] w (wk1 (fun v8 w7 => wle w w7 → zw E (L - 22) kt_M536 [.ref (w_adr E.2.1 12 0), .int (w_a w 12 0 29 (x2).toNatClampNeg), .int v8] w7 (wk1 (fun v10 w9 => wle w7 w9 → zb_X13_eval_p188 E L Q v10 w9) (fun e w => Q (.inr e) w))) (fun e w => Q (.inr e) w)))) else (kx_inb x2 (w_n w 12 0 28) = true ∧ zw E (L - 22) kt_M538 [.ref (w_adr E.2.1 12 0), .int (w_a w 12 0 28 (x2).toNatClampNeg)] w (wk1 (fun v12 w11 => wle w w11 → zb_X13_eval_p188 E L Q v12 w11) (fun e w => Q (.inr e) w))))) else (if w_a w 12 0 26 (x2).toNatClampNeg = 63 then (kx_inb x2 (w_n w 12 0 28) = true ∧ zw E (L - 25) kt_M404 [.ref (w_adr E.2.1 12 0), .int (w_a w 12 0 28 (x2).toNatClampNeg)] w (wk1 (fun v14 w13 => wle w w13 → (kx_inb x2 (w_n w13 12 0 29) = true ∧ (kx_inb x2 (w_n w13 12 0 30) = true ∧ zw E (L - 25) kt_M404 [.ref (w_adr E.2.1 12 0), .int (w_a w13 12 0 30 (x2).toNatClampNeg)] w13 (wk1 (fun v16 w15 => wle w13 w15 → zw E (L - 23) kt_M605 [.ref (w_adr E.2.1 12 0), .int (w_a w13 12 0 29 (x2).toNatClampNeg), .int v14, .int v16] w15 (wk1 (fun v18 w17 => wle w15 w17 → Q (.inl (some (.int v18))) w17) (fun e w => Q (.inr e) w))) (fun e w => Q (.inr e) w))))) (fun e w => Q (.inr e) w))) else (if w_a w 12 0 26 (x2).toNatClampNeg = 64 then (kx_inb x2 (w_n w 12 0 29) = true ∧ (if ¬ w_a w 12 0 29 (x2).toNatClampNeg = 2 then zb_X13_eval_p237 E L Q x2 0 w else zb_X13_eval_p237 E L Q x2 1 w)) else (kx_inb x2 (w_n w 12 0 31) = true ∧ (kx_inb x2 (w_n w 12 0 28) = true ∧ (if w_a w 12 0 28 (x2).toNatClampNeg < 0 then zw E (L - 21) kt_M540 [.ref (w_adr E.2.1 12 0), .int (w_a w 12 0 31 (x2).toNatClampNeg)] w (wk1 (fun v20 w19 => wle w w19 → (kx_inb (w_a w 12 0 31 (x2).toNatClampNeg) (w_n w19 12 0 46) = true ∧ (if ¬ w_a w19 12 0 46 (w_a w 12 0 31 (x2).toNatClampNeg).toNatClampNeg = 1 then zw E (L - 21) kt_M410 [.ref (w_adr E.2.1 12 0), .int v20] w19 (wk1 (fun v22 w21 => wle w19 w21 → zb_X13_eval_p424 E L Q v22 w21) (fun e w => Q (.inr e) w)) else zw E (L - 21) kt_M410 [.ref (w_adr E.2.1 12 0), .int v20] w19 (wk1 (fun v24 w23 => wle w19 w23 → zw E (L - 21) kt_M594 [.ref (w_adr E.2.1 12 0), .int v24] w23 (wk1 (fun v26 w25 => wle w23 w25 → zb_X13_eval_p424 E L Q v26 w25) (fun e w => Q (.inr e) w))) (fun e w => Q (.inr e) w))))) (fun e w => Q (.inr e) w)) else zw E (L - 23) kt_M433 [.ref (w_adr E.2.1 12 0), .int x2] w (wk1 (fun v28 w27 => wle w w27 → (kx_inb (w_a w 12 0 31 (x2).toNatClampNeg) (w_n w27 12 0 46) = true ∧ (if ¬ w_a w27 12 0 46 (w_a w 12 0 31 (x2).toNatClampNeg).toNatClampNeg = 1 then (kx_inb v28 (w_n w27 12 0 111) = true ∧ zb_X13_eval_p387 E L Q (w_a w27 12 0 111 (v28).toNatClampNeg) w27) else zw E (L - 21) kt_M594 [.ref (w_adr E.2.1 12 0), .int v28] w27 (wk1 (fun v30 w29 => wle w27 w29 → zb_X13_eval_p387 E L Q v30 w29) (fun e w => Q (.inr e) w))))) (fun e w => Q (.inr e) w))))))))))))))))) else (kx_inb x2 (w_n w 12 0 28) = true ∧ zL_X13_eval_p2 E L Q (w_a w 12 0 28 (x2).toNatClampNeg) w)))
theorem zt_X13_eval_p2 {E : zE} {L : Nat} {Q : kx_Rs → wS → Prop} {x2 : Int32} {w : wS} (hL : 25 ≤ L) (h : zb_X13_eval_p2 E L Q x2 w) : kzE E L kt_M404 2 [(0, .ref (w_adr E.2.1 12 0)), (2, .int x2)] [] w Q := by
  unfold zb_X13_eval_p2 at h
  refine kz_aload_n (M := kt_M404) kX13_eval_c0.2.2.1 rfl ?_
  refine kz_gfc (M := kt_M404) (x := 4098) (c := 12) (o := 0) kX13_eval_c0.2.2.2.1 wf_X13_187 (.inl rfl) ?_
  refine kz_iload_n (M := kt_M404) kX13_eval_c0.2.2.2.2.1 rfl ?_
  refine kz_iald (M := kt_M404) (c := 12) (o := 0) (k := 26) (a := (E.2.1 4098)) kX13_eval_c0.2.2.2.2.2.1 ow_12_0_26 oa_12_0_26 ot_0 h (fun h => ?_)
  refine kz_bi (M := kt_M404) 58 kX13_eval_c0.2.2.2.2.2.2.1 rfl ?_
  refine kz_icmp_ne (M := kt_M404) kX13_eval_c0.2.2.2.2.2.2.2.1 (t := 23) rfl h (fun h => ?_) (fun h => ?_)
  · skip
    refine kz_aload_n (M := kt_M404) kX13_eval_c1.2.2.2.2.2.2.1 rfl ?_
    refine kz_gfc (M := kt_M404) (x := 4098) (c := 12) (o := 0) kX13_eval_c1.2.2.2.2.2.2.2.1 wf_X13_187 (.inl rfl) ?_
    refine kz_iload_n (M := kt_M404) kX13_eval_c2.1 rfl ?_
    refine kz_iald (M := kt_M404) (c := 12) (o := 0) (k := 26) (a := (E.2.1 4098)) kX13_eval_c2.2.1 ow_12_0_26 oa_12_0_26 ot_0 h (fun h => ?_)
    refine kz_tsw (M := kt_M404) [(50, 104), (51, 104), (53, 111), (54, 113), (55, 115), (56, 119), (57, 123), (61, 332), (62, 144), (63, 189), (64, 222)] [_, _, _, _, _, _, _, _, _, _, _] 338 dX13_eval_p29 (by decide +kernel) h ⟨fun h => ?_, fun h => ?_, fun h => ?_, fun h => ?_, fun h => ?_, fun h => ?_, fun h => ?_, fun h => ?_, fun h => ?_, fun h => ?_, fun h => ?_, trivial⟩ (fun h => ?_)
    · skip
      refine kz_aload_n (M := kt_M404) kX13_eval_c2.2.2.2.1 rfl ?_
      refine kz_gfc (M := kt_M404) (x := 4100) (c := 12) (o := 0) kX13_eval_c2.2.2.2.2.1 wf_X13_193 (.inl rfl) ?_
      refine kz_iload_n (M := kt_M404) kX13_eval_c2.2.2.2.2.2.1 rfl ?_
      refine kz_iald (M := kt_M404) (c := 12) (o := 0) (k := 28) (a := (E.2.1 4100)) kX13_eval_c2.2.2.2.2.2.2.1 ow_12_0_28 oa_12_0_28 ot_0 h (fun h => ?_)
      exact kz_iret (M := kt_M404) kX13_eval_c2.2.2.2.2.2.2.2.1 rfl rfl h
    · skip
      refine kz_aload_n (M := kt_M404) kX13_eval_c2.2.2.2.1 rfl ?_
      refine kz_gfc (M := kt_M404) (x := 4100) (c := 12) (o := 0) kX13_eval_c2.2.2.2.2.1 wf_X13_193 (.inl rfl) ?_
      refine kz_iload_n (M := kt_M404) kX13_eval_c2.2.2.2.2.2.1 rfl ?_
      refine kz_iald (M := kt_M404) (c := 12) (o := 0) (k := 28) (a := (E.2.1 4100)) kX13_eval_c2.2.2.2.2.2.2.1 ow_12_0_28 oa_12_0_28 ot_0 h (fun h => ?_)
      exact kz_iret (M := kt_M404) kX13_eval_c2.2.2.2.2.2.2.2.1 rfl rfl h
    · skip
      refine kz_ic (M := kt_M404) 1 kX13_eval_c3.1 rfl ?_
      exact kz_iret (M := kt_M404) kX13_eval_c3.2.1 rfl rfl h
    · skip
      refine kz_ic (M := kt_M404) 0 kX13_eval_c3.2.2.1 rfl ?_
      exact kz_iret (M := kt_M404) kX13_eval_c3.2.2.2.1 rfl rfl h
    · skip
      refine kz_ldcw (M := kt_M404) (x := 2147483647) kX13_eval_c3.2.2.2.2.1 (zc_X13_822) ?_
      exact kz_iret (M := kt_M404) kX13_eval_c3.2.2.2.2.2.1 rfl rfl h
    · skip
      refine kz_ldcw (M := kt_M404) (x := (-2147483648)) kX13_eval_c3.2.2.2.2.2.2.1 (zc_X13_823) ?_
      exact kz_iret (M := kt_M404) kX13_eval_c3.2.2.2.2.2.2.2.1 rfl rfl h
    · skip
      refine kz_aload_n (M := kt_M404) kX13_eval_c4.1 rfl ?_
      refine kz_aload_n (M := kt_M404) kX13_eval_c4.2.1 rfl ?_
      refine kz_aload_n (M := kt_M404) kX13_eval_c4.2.2.1 rfl ?_
      refine kz_gfc (M := kt_M404) (x := 4100) (c := 12) (o := 0) kX13_eval_c4.2.2.2.1 wf_X13_193 (.inl rfl) ?_
      refine kz_iload_n (M := kt_M404) kX13_eval_c4.2.2.2.2.1 rfl ?_
      refine kz_iald (M := kt_M404) (c := 12) (o := 0) (k := 28) (a := (E.2.1 4100)) kX13_eval_c4.2.2.2.2.2.1 ow_12_0_28 oa_12_0_28 ot_0 h (fun h => ?_)
      refine kz_cv1 (M := kt_M404) (c := 12) (o := 0) (As := [.int (w_a w 12 0 28 (x2).toNatClampNeg)]) (rest := [.ref (w_adr E.2.1 12 0)]) kX13_eval_c4.2.2.2.2.2.2.1 wl_X13_1207 wMv_404 rfl (.inl rfl) rfl (Nat.le_trans (Nat.le_of_ble_eq_true rfl) hL) (Nat.le_of_ble_eq_true rfl) (Nat.le_of_ble_eq_true rfl) h (fun v2 w1 hle h => ?_) (fun _ _ _ h => kzx_no rfl h)
      have h := h hle
      refine kz_aload_n (M := kt_M404) kX13_eval_c4.2.2.2.2.2.2.2.1 rfl ?_
      refine kz_gfc (M := kt_M404) (x := 4101) (c := 12) (o := 0) kX13_eval_c5.1 wf_X13_196 (.inl rfl) ?_
      refine kz_iload_n (M := kt_M404) kX13_eval_c5.2.1 rfl ?_
      refine kz_iald (M := kt_M404) (c := 12) (o := 0) (k := 29) (a := (E.2.1 4101)) kX13_eval_c5.2.2.1 ow_12_0_29 oa_12_0_29 ot_0 h (fun h => ?_)
      refine kz_cv1 (M := kt_M404) (c := 12) (o := 0) (As := [.int v2, .int (w_a w1 12 0 29 (x2).toNatClampNeg)]) (rest := []) kX13_eval_c5.2.2.2.1 wl_X13_827 wMv_378 rfl (.inl rfl) rfl (Nat.le_trans (Nat.le_of_ble_eq_true rfl) hL) (Nat.le_of_ble_eq_true rfl) (Nat.le_of_ble_eq_true rfl) h (fun v4 w3 hle h => ?_) (fun _ _ _ h => kzx_no rfl h)
      have h := h hle
      exact kz_iret (M := kt_M404) kX13_eval_c5.2.2.2.2.1 rfl rfl h
    · skip
      refine kz_aload_n (M := kt_M404) kX13_eval_c19.1 rfl ?_
      refine kz_iload_n (M := kt_M404) kX13_eval_c19.2.1 rfl ?_
      refine kz_cv1 (M := kt_M404) (c := 12) (o := 0) (As := [.int x2]) (rest := []) kX13_eval_c19.2.2.1 wl_X13_1216 wMv_363 rfl (.inl rfl) rfl (Nat.le_trans (Nat.le_of_ble_eq_true rfl) hL) (Nat.le_of_ble_eq_true rfl) (Nat.le_of_ble_eq_true rfl) h (fun v6 w5 hle h => ?_) (fun _ _ _ h => kzx_no rfl h)
      have h := h hle
      exact kz_iret (M := kt_M404) kX13_eval_c19.2.2.2.1 rfl rfl h
    · skip
      refine kz_aload_n (M := kt_M404) kX13_eval_c5.2.2.2.2.2.1 rfl ?_
      refine kz_gfc (M := kt_M404) (x := 4101) (c := 12) (o := 0) kX13_eval_c5.2.2.2.2.2.2.1 wf_X13_196 (.inl rfl) ?_
      refine kz_iload_n (M := kt_M404) kX13_eval_c5.2.2.2.2.2.2.2.1 rfl ?_
      refine kz_iald (M := kt_M404) (c := 12) (o := 0) (k := 29) (a := (E.2.1 4101)) kX13_eval_c6.1 ow_12_0_29 oa_12_0_29 ot_0 h (fun h => ?_)
      refine kz_bi (M := kt_M404) 27 kX13_eval_c6.2.1 rfl ?_
      refine kz_icmp_ne (M := kt_M404) kX13_eval_c6.2.2.1 (t := 168) rfl h (fun h => ?_) (fun h => ?_)
      · skip
        refine kz_aload_n (M := kt_M404) kX13_eval_c7.2.2.1 rfl ?_
        refine kz_aload_n (M := kt_M404) kX13_eval_c7.2.2.2.1 rfl ?_
        refine kz_gfc (M := kt_M404) (x := 4101) (c := 12) (o := 0) kX13_eval_c7.2.2.2.2.1 wf_X13_196 (.inl rfl) ?_
        refine kz_iload_n (M := kt_M404) kX13_eval_c7.2.2.2.2.2.1 rfl ?_
        refine kz_iald (M := kt_M404) (c := 12) (o := 0) (k := 29) (a := (E.2.1 4101)) kX13_eval_c7.2.2.2.2.2.2.1 ow_12_0_29 oa_12_0_29 ot_0 h (fun h => ?_)
        refine kz_aload_n (M := kt_M404) kX13_eval_c7.2.2.2.2.2.2.2.1 rfl ?_
        refine kz_aload_n (M := kt_M404) kX13_eval_c8.1 rfl ?_
        refine kz_gfc (M := kt_M404) (x := 4100) (c := 12) (o := 0) kX13_eval_c8.2.1 wf_X13_193 (.inl rfl) ?_
        refine kz_iload_n (M := kt_M404) kX13_eval_c8.2.2.1 rfl ?_
        refine kz_iald (M := kt_M404) (c := 12) (o := 0) (k := 28) (a := (E.2.1 4100)) kX13_eval_c8.2.2.2.1 ow_12_0_28 oa_12_0_28 ot_0 h (fun h => ?_)
        refine kz_cv1 (M := kt_M404) (c := 12) (o := 0) (As := [.int (w_a w 12 0 28 (x2).toNatClampNeg)]) (rest := [.int (w_a w 12 0 29 (x2).toNatClampNeg), .ref (w_adr E.2.1 12 0)]) kX13_eval_c8.2.2.2.2.1 wl_X13_1207 wMv_404 rfl (.inl rfl) rfl (Nat.le_trans (Nat.le_of_ble_eq_true rfl) hL) (Nat.le_of_ble_eq_true rfl) (Nat.le_of_ble_eq_true rfl) h (fun v8 w7 hle h => ?_) (fun _ _ _ h => kzx_no rfl h)
        have h := h hle
        refine kz_cv1 (M := kt_M404) (c := 12) (o := 0) (As := [.int (w_a w 12 0 29 (x2).toNatClampNeg), .int v8]) (rest := []) kX13_eval_c8.2.2.2.2.2.1 wl_X13_830 wMv_536 rfl (.inl rfl) rfl (Nat.le_trans (Nat.le_of_ble_eq_true rfl) hL) (Nat.le_of_ble_eq_true rfl) (Nat.le_of_ble_eq_true rfl) h (fun v10 w9 hle h => ?_) (fun _ _ _ h => kzx_no rfl h)
        have h := h hle
        exact kz_weak [(0, .ref (w_adr E.2.1 12 0))] ⟨rfl, trivial⟩ rfl (zt_X13_eval_p188 hL  h)
      · skip
        refine kz_aload_n (M := kt_M404) kX13_eval_c6.2.2.2.1 rfl ?_
        refine kz_aload_n (M := kt_M404) kX13_eval_c6.2.2.2.2.1 rfl ?_
        refine kz_gfc (M := kt_M404) (x := 4100) (c := 12) (o := 0) kX13_eval_c6.2.2.2.2.2.1 wf_X13_193 (.inl rfl) ?_
        refine kz_iload_n (M := kt_M404) kX13_eval_c6.2.2.2.2.2.2.1 rfl ?_
        refine kz_iald (M := kt_M404) (c := 12) (o := 0) (k := 28) (a := (E.2.1 4100)) kX13_eval_c6.2.2.2.2.2.2.2.1 ow_12_0_28 oa_12_0_28 ot_0 h (fun h => ?_)
        refine kz_cv1 (M := kt_M404) (c := 12) (o := 0) (As := [.int (w_a w 12 0 28 (x2).toNatClampNeg)]) (rest := []) kX13_eval_c7.1 wl_X13_1213 wMv_538 rfl (.inl rfl) rfl (Nat.le_trans (Nat.le_of_ble_eq_true rfl) hL) (Nat.le_of_ble_eq_true rfl) (Nat.le_of_ble_eq_true rfl) h (fun v12 w11 hle h => ?_) (fun _ _ _ h => kzx_no rfl h)
        have h := h hle
        refine kz_goto (M := kt_M404) kX13_eval_c7.2.1 (t := 188) rfl ?_
        exact kz_weak [(0, .ref (w_adr E.2.1 12 0))] ⟨rfl, trivial⟩ rfl (zt_X13_eval_p188 hL  h)
    · skip
      refine kz_aload_n (M := kt_M404) kX13_eval_c8.2.2.2.2.2.2.2.1 rfl ?_
      refine kz_aload_n (M := kt_M404) kX13_eval_c9.1 rfl ?_
      refine kz_gfc (M := kt_M404) (x := 4100) (c := 12) (o := 0) kX13_eval_c9.2.1 wf_X13_193 (.inl rfl) ?_
      refine kz_iload_n (M := kt_M404) kX13_eval_c9.2.2.1 rfl ?_
      refine kz_iald (M := kt_M404) (c := 12) (o := 0) (k := 28) (a := (E.2.1 4100)) kX13_eval_c9.2.2.2.1 ow_12_0_28 oa_12_0_28 ot_0 h (fun h => ?_)
      refine kz_cv1 (M := kt_M404) (c := 12) (o := 0) (As := [.int (w_a w 12 0 28 (x2).toNatClampNeg)]) (rest := []) kX13_eval_c9.2.2.2.2.1 wl_X13_1207 wMv_404 rfl (.inl rfl) rfl (Nat.le_trans (Nat.le_of_ble_eq_true rfl) hL) (Nat.le_of_ble_eq_true rfl) (Nat.le_of_ble_eq_true rfl) h (fun v14 w13 hle h => ?_) (fun _ _ _ h => kzx_no rfl h)
      have h := h hle
      refine kz_sti_n (M := kt_M404) [(0, .ref (w_adr E.2.1 12 0)), (2, .int x2)] kX13_eval_c9.2.2.2.2.2.1 (Nat.le_of_ble_eq_true rfl) ⟨⟨rfl, rfl, .inl rfl⟩, ⟨⟨rfl, rfl, .inr rfl⟩, trivial⟩⟩ rfl ?_
      refine kz_aload_n (M := kt_M404) kX13_eval_c9.2.2.2.2.2.2.1 rfl ?_
      refine kz_aload_n (M := kt_M404) kX13_eval_c9.2.2.2.2.2.2.2.1 rfl ?_
      refine kz_gfc (M := kt_M404) (x := 4101) (c := 12) (o := 0) kX13_eval_c10.1 wf_X13_196 (.inl rfl) ?_
      refine kz_iload_n (M := kt_M404) kX13_eval_c10.2.1 rfl ?_
      refine kz_iald (M := kt_M404) (c := 12) (o := 0) (k := 29) (a := (E.2.1 4101)) kX13_eval_c10.2.2.1 ow_12_0_29 oa_12_0_29 ot_0 h (fun h => ?_)
      refine kz_iload_n (M := kt_M404) kX13_eval_c10.2.2.2.1 rfl ?_
      refine kz_aload_n (M := kt_M404) kX13_eval_c10.2.2.2.2.1 rfl ?_
      refine kz_aload_n (M := kt_M404) kX13_eval_c10.2.2.2.2.2.1 rfl ?_
      refine kz_gfc (M := kt_M404) (x := 4102) (c := 12) (o := 0) kX13_eval_c10.2.2.2.2.2.2.1 wf_X13_199 (.inl rfl) ?_
      refine kz_iload_n (M := kt_M404) kX13_eval_c10.2.2.2.2.2.2.2.1 rfl ?_
      refine kz_iald (M := kt_M404) (c := 12) (o := 0) (k := 30) (a := (E.2.1 4102)) kX13_eval_c11.1 ow_12_0_30 oa_12_0_30 ot_0 h (fun h => ?_)
      refine kz_cv1 (M := kt_M404) (c := 12) (o := 0) (As := [.int (w_a w13 12 0 30 (x2).toNatClampNeg)]) (rest := [.int v14, .int (w_a w13 12 0 29 (x2).toNatClampNeg), .ref (w_adr E.2.1 12 0)]) kX13_eval_c11.2.1 wl_X13_1207 wMv_404 rfl (.inl rfl) rfl (Nat.le_trans (Nat.le_of_ble_eq_true rfl) hL) (Nat.le_of_ble_eq_true rfl) (Nat.le_of_ble_eq_true rfl) h (fun v16 w15 hle h => ?_) (fun _ _ _ h => kzx_no rfl h)
      have h := h hle
      refine kz_cv1 (M := kt_M404) (c := 12) (o := 0) (As := [.int (w_a w13 12 0 29 (x2).toNatClampNeg), .int v14, .int v16]) (rest := []) kX13_eval_c11.2.2.1 wl_X13_833 wMv_605 rfl (.inl rfl) rfl (Nat.le_trans (Nat.le_of_ble_eq_true rfl) hL) (Nat.le_of_ble_eq_true rfl) (Nat.le_of_ble_eq_true rfl) h (fun v18 w17 hle h => ?_) (fun _ _ _ h => kzx_no rfl h)
      have h := h hle
      exact kz_iret (M := kt_M404) kX13_eval_c11.2.2.2.1 rfl rfl h
    · skip
      refine kz_aload_n (M := kt_M404) kX13_eval_c11.2.2.2.2.1 rfl ?_
      refine kz_gfc (M := kt_M404) (x := 4101) (c := 12) (o := 0) kX13_eval_c11.2.2.2.2.2.1 wf_X13_196 (.inl rfl) ?_
      refine kz_iload_n (M := kt_M404) kX13_eval_c11.2.2.2.2.2.2.1 rfl ?_
      refine kz_iald (M := kt_M404) (c := 12) (o := 0) (k := 29) (a := (E.2.1 4101)) kX13_eval_c11.2.2.2.2.2.2.2.1 ow_12_0_29 oa_12_0_29 ot_0 h (fun h => ?_)
      refine kz_ic (M := kt_M404) 2 kX13_eval_c12.1 rfl ?_
      refine kz_icmp_ne (M := kt_M404) kX13_eval_c12.2.1 (t := 236) rfl h (fun h => ?_) (fun h => ?_)
      · skip
        refine kz_ic (M := kt_M404) 0 kX13_eval_c12.2.2.2.2.1 rfl ?_
        exact kz_weak [(0, .ref (w_adr E.2.1 12 0)), (2, .int x2)] ⟨rfl, ⟨rfl, trivial⟩⟩ rfl (zt_X13_eval_p237 hL  h)
      · skip
        refine kz_ic (M := kt_M404) 1 kX13_eval_c12.2.2.1 rfl ?_
        refine kz_goto (M := kt_M404) kX13_eval_c12.2.2.2.1 (t := 237) rfl ?_
        exact kz_weak [(0, .ref (w_adr E.2.1 12 0)), (2, .int x2)] ⟨rfl, ⟨rfl, trivial⟩⟩ rfl (zt_X13_eval_p237 hL  h)
    · skip
      refine kz_aload_n (M := kt_M404) kX13_eval_c19.2.2.2.2.1 rfl ?_
      refine kz_gfc (M := kt_M404) (x := 4103) (c := 12) (o := 0) kX13_eval_c19.2.2.2.2.2.1 wf_X13_202 (.inl rfl) ?_
      refine kz_iload_n (M := kt_M404) kX13_eval_c19.2.2.2.2.2.2.1 rfl ?_
      refine kz_iald (M := kt_M404) (c := 12) (o := 0) (k := 31) (a := (E.2.1 4103)) kX13_eval_c19.2.2.2.2.2.2.2.1 ow_12_0_31 oa_12_0_31 ot_0 h (fun h => ?_)
      refine kz_sti_n (M := kt_M404) [(0, .ref (w_adr E.2.1 12 0)), (2, .int x2)] kX13_eval_c20.1 (Nat.le_of_ble_eq_true rfl) ⟨⟨rfl, rfl, .inl rfl⟩, ⟨⟨rfl, rfl, .inr rfl⟩, trivial⟩⟩ rfl ?_
      refine kz_aload_n (M := kt_M404) kX13_eval_c20.2.1 rfl ?_
      refine kz_gfc (M := kt_M404) (x := 4100) (c := 12) (o := 0) kX13_eval_c20.2.2.1 wf_X13_193 (.inl rfl) ?_
      refine kz_iload_n (M := kt_M404) kX13_eval_c20.2.2.2.1 rfl ?_
      refine kz_iald (M := kt_M404) (c := 12) (o := 0) (k := 28) (a := (E.2.1 4100)) kX13_eval_c20.2.2.2.2.1 ow_12_0_28 oa_12_0_28 ot_0 h (fun h => ?_)
      refine kz_if_lt (M := kt_M404) kX13_eval_c20.2.2.2.2.2.1 (t := 388) rfl h (fun h => ?_) (fun h => ?_)
      · skip
        refine kz_aload_n (M := kt_M404) kX13_eval_c23.2.1 rfl ?_
        refine kz_iload_n (M := kt_M404) kX13_eval_c23.2.2.1 rfl ?_
        refine kz_cv1 (M := kt_M404) (c := 12) (o := 0) (As := [.int (w_a w 12 0 31 (x2).toNatClampNeg)]) (rest := []) kX13_eval_c23.2.2.2.1 wl_X13_1210 wMv_540 rfl (.inl rfl) rfl (Nat.le_trans (Nat.le_of_ble_eq_true rfl) hL) (Nat.le_of_ble_eq_true rfl) (Nat.le_of_ble_eq_true rfl) h (fun v20 w19 hle h => ?_) (fun _ _ _ h => kzx_no rfl h)
        have h := h hle
        refine kz_sti (M := kt_M404) [(0, .ref (w_adr E.2.1 12 0)), (3, .int (w_a w 12 0 31 (x2).toNatClampNeg))] kX13_eval_c23.2.2.2.2.1 (Nat.le_of_ble_eq_true rfl) ⟨⟨rfl, rfl, .inl rfl⟩, ⟨⟨rfl, rfl, .inr rfl⟩, trivial⟩⟩ rfl ?_
        refine kz_aload_n (M := kt_M404) kX13_eval_c23.2.2.2.2.2.1 rfl ?_
        refine kz_gfc (M := kt_M404) (x := 4118) (c := 12) (o := 0) kX13_eval_c23.2.2.2.2.2.2.1 wf_X13_223 (.inl rfl) ?_
        refine kz_iload_n (M := kt_M404) kX13_eval_c23.2.2.2.2.2.2.2.1 rfl ?_
        refine kz_iald (M := kt_M404) (c := 12) (o := 0) (k := 46) (a := (E.2.1 4118)) kX13_eval_c24.1 ow_12_0_46 oa_12_0_46 ot_0 h (fun h => ?_)
        refine kz_ic (M := kt_M404) 1 kX13_eval_c24.2.1 rfl ?_
        refine kz_icmp_ne (M := kt_M404) kX13_eval_c24.2.2.1 (t := 418) rfl h (fun h => ?_) (fun h => ?_)
        · skip
          refine kz_aload_n (M := kt_M404) kX13_eval_c25.2.1 rfl ?_
          refine kz_iload (M := kt_M404) kX13_eval_c25.2.2.1 rfl ?_
          refine kz_cv1 (M := kt_M404) (c := 12) (o := 0) (As := [.int v20]) (rest := []) kX13_eval_c25.2.2.2.1 wl_X13_1177 wMv_410 rfl (.inl rfl) rfl (Nat.le_trans (Nat.le_of_ble_eq_true rfl) hL) (Nat.le_of_ble_eq_true rfl) (Nat.le_of_ble_eq_true rfl) h (fun v22 w21 hle h => ?_) (fun _ _ _ h => kzx_no rfl h)
          have h := h hle
          exact kz_weak [(0, .ref (w_adr E.2.1 12 0))] ⟨rfl, trivial⟩ rfl (zt_X13_eval_p424 hL  h)
        · skip
          refine kz_aload_n (M := kt_M404) kX13_eval_c24.2.2.2.1 rfl ?_
          refine kz_aload_n (M := kt_M404) kX13_eval_c24.2.2.2.2.1 rfl ?_
          refine kz_iload (M := kt_M404) kX13_eval_c24.2.2.2.2.2.1 rfl ?_
          refine kz_cv1 (M := kt_M404) (c := 12) (o := 0) (As := [.int v20]) (rest := [.ref (w_adr E.2.1 12 0)]) kX13_eval_c24.2.2.2.2.2.2.1 wl_X13_1177 wMv_410 rfl (.inl rfl) rfl (Nat.le_trans (Nat.le_of_ble_eq_true rfl) hL) (Nat.le_of_ble_eq_true rfl) (Nat.le_of_ble_eq_true rfl) h (fun v24 w23 hle h => ?_) (fun _ _ _ h => kzx_no rfl h)
          have h := h hle
          refine kz_cv1 (M := kt_M404) (c := 12) (o := 0) (As := [.int v24]) (rest := []) kX13_eval_c24.2.2.2.2.2.2.2.1 wl_X13_1222 wMv_594 rfl (.inl rfl) rfl (Nat.le_trans (Nat.le_of_ble_eq_true rfl) hL) (Nat.le_of_ble_eq_true rfl) (Nat.le_of_ble_eq_true rfl) h (fun v26 w25 hle h => ?_) (fun _ _ _ h => kzx_no rfl h)
          have h := h hle
          refine kz_goto (M := kt_M404) kX13_eval_c25.1 (t := 424) rfl ?_
          exact kz_weak [(0, .ref (w_adr E.2.1 12 0))] ⟨rfl, trivial⟩ rfl (zt_X13_eval_p424 hL  h)
      · skip
        refine kz_aload_n (M := kt_M404) kX13_eval_c20.2.2.2.2.2.2.1 rfl ?_
        refine kz_iload_n (M := kt_M404) kX13_eval_c20.2.2.2.2.2.2.2.1 rfl ?_
        refine kz_cv1 (M := kt_M404) (c := 12) (o := 0) (As := [.int x2]) (rest := []) kX13_eval_c21.1 wl_X13_1219 wMv_433 rfl (.inl rfl) rfl (Nat.le_trans (Nat.le_of_ble_eq_true rfl) hL) (Nat.le_of_ble_eq_true rfl) (Nat.le_of_ble_eq_true rfl) h (fun v28 w27 hle h => ?_) (fun _ _ _ h => kzx_no rfl h)
        have h := h hle
        refine kz_sti (M := kt_M404) [(0, .ref (w_adr E.2.1 12 0)), (3, .int (w_a w 12 0 31 (x2).toNatClampNeg))] kX13_eval_c21.2.1 (Nat.le_of_ble_eq_true rfl) ⟨⟨rfl, rfl, .inl rfl⟩, ⟨⟨rfl, rfl, .inr rfl⟩, trivial⟩⟩ rfl ?_
        refine kz_aload_n (M := kt_M404) kX13_eval_c21.2.2.1 rfl ?_
        refine kz_gfc (M := kt_M404) (x := 4118) (c := 12) (o := 0) kX13_eval_c21.2.2.2.1 wf_X13_223 (.inl rfl) ?_
        refine kz_iload_n (M := kt_M404) kX13_eval_c21.2.2.2.2.1 rfl ?_
        refine kz_iald (M := kt_M404) (c := 12) (o := 0) (k := 46) (a := (E.2.1 4118)) kX13_eval_c21.2.2.2.2.2.1 ow_12_0_46 oa_12_0_46 ot_0 h (fun h => ?_)
        refine kz_ic (M := kt_M404) 1 kX13_eval_c21.2.2.2.2.2.2.1 rfl ?_
        refine kz_icmp_ne (M := kt_M404) kX13_eval_c21.2.2.2.2.2.2.2.1 (t := 380) rfl h (fun h => ?_) (fun h => ?_)
        · skip
          refine kz_aload_n (M := kt_M404) kX13_eval_c22.2.2.2.2.1 rfl ?_
          refine kz_gfa (M := kt_M404) (c := 12) (o := 0) kX13_eval_c22.2.2.2.2.2.1 wf_X13_350 (.inl rfl) ?_
          refine kz_iload (M := kt_M404) kX13_eval_c22.2.2.2.2.2.2.1 rfl ?_
          refine kz_iald (M := kt_M404) (c := 12) (o := 0) (k := 111) (a := (w_d w27 12 0 111)) kX13_eval_c22.2.2.2.2.2.2.2.1 ow_12_0_111 oa_12_0_111 ot_0 h (fun h => ?_)
          exact kz_weak [(0, .ref (w_adr E.2.1 12 0))] ⟨rfl, trivial⟩ rfl (zt_X13_eval_p387 hL  h)
        · skip
          refine kz_aload_n (M := kt_M404) kX13_eval_c22.1 rfl ?_
          refine kz_iload (M := kt_M404) kX13_eval_c22.2.1 rfl ?_
          refine kz_cv1 (M := kt_M404) (c := 12) (o := 0) (As := [.int v28]) (rest := []) kX13_eval_c22.2.2.1 wl_X13_1222 wMv_594 rfl (.inl rfl) rfl (Nat.le_trans (Nat.le_of_ble_eq_true rfl) hL) (Nat.le_of_ble_eq_true rfl) (Nat.le_of_ble_eq_true rfl) h (fun v30 w29 hle h => ?_) (fun _ _ _ h => kzx_no rfl h)
          have h := h hle
          refine kz_goto (M := kt_M404) kX13_eval_c22.2.2.2.1 (t := 387) rfl ?_
          exact kz_weak [(0, .ref (w_adr E.2.1 12 0))] ⟨rfl, trivial⟩ rfl (zt_X13_eval_p387 hL  h)
  · skip
    refine kz_aload_n (M := kt_M404) kX13_eval_c1.1 rfl ?_
    refine kz_gfc (M := kt_M404) (x := 4100) (c := 12) (o := 0) kX13_eval_c1.2.1 wf_X13_193 (.inl rfl) ?_
    refine kz_iload_n (M := kt_M404) kX13_eval_c1.2.2.1 rfl ?_
    refine kz_iald (M := kt_M404) (c := 12) (o := 0) (k := 28) (a := (E.2.1 4100)) kX13_eval_c1.2.2.2.1 ow_12_0_28 oa_12_0_28 ot_0 h (fun h => ?_)
    refine kz_sti_n (M := kt_M404) [(0, .ref (w_adr E.2.1 12 0))] kX13_eval_c1.2.2.2.2.1 (Nat.le_of_ble_eq_true rfl) ⟨⟨rfl, rfl, .inl rfl⟩, trivial⟩ rfl ?_
    refine kz_goto (M := kt_M404) kX13_eval_c1.2.2.2.2.2.1 (t := 2) rfl ?_
    exact kz_weak [(0, .ref (w_adr E.2.1 12 0)), (2, .int (w_a w 12 0 28 (x2).toNatClampNeg))] ⟨rfl, ⟨rfl, trivial⟩⟩ rfl h
def zb_X13_eval_p0 (E : zE) (L : Nat) (Q : kx_Rs → wS → Prop) (x1 : Int32) (w : wS) : Prop := zL_X13_eval_p2 E L Q x1 w
theorem zt_X13_eval_p0 {E : zE} {L : Nat} {Q : kx_Rs → wS → Prop} {x1 : Int32} {w : wS} (hL : 25 ≤ L) (h : zb_X13_eval_p0 E L Q x1 w) : kzE E L kt_M404 0 [(0, .ref (w_adr E.2.1 12 0)), (1, .int x1)] [] w Q := by
  unfold zb_X13_eval_p0 at h
  refine kz_iload_n (M := kt_M404) kX13_eval_c0.1 rfl ?_
  refine kz_sti_n (M := kt_M404) [(0, .ref (w_adr E.2.1 12 0))] kX13_eval_c0.2.1 (Nat.le_of_ble_eq_true rfl) ⟨⟨rfl, rfl, .inl rfl⟩, trivial⟩ rfl ?_
  exact kz_weak [(0, .ref (w_adr E.2.1 12 0)), (2, .int x1)] ⟨rfl, ⟨rfl, trivial⟩⟩ rfl h
def zL_X13_sizeAt_p16 (E : zE) (L : Nat) (Q : kx_Rs → wS → Prop) (x2 : Int32) (w : wS) : Prop := kzE E L kt_M538 16 [(0, .ref (w_adr E.2.1 12 0)), (2, .int x2)] [] w Q
def zb_X13_sizeAt_p16 (E : zE) (L : Nat) (Q : kx_Rs → wS → Prop) (x2 : Int32) (w : wS) : Prop := (kx_inb x2 (w_n w 12 0 26) = true ∧ (if ¬ w_a w 12 0 26 (x2).toNatClampNeg = 58 then (kx_inb x2 (w_n w 12 0 31) = true ∧ zw E (L - 21) kt_M540 [.ref (w_adr E.2.1 12 0), .int (w_a w 12 0 31 (x2).toNatClampNeg)] w (wk1 (fun v2 w1 => wle w w1 → zw E (L - 21) kt_M410 [.ref (w_adr E.2.1 12 0), .int (v2 + 1)] w1 (wk1 (fun v4 w3 => wle w1 w3 → Q (.inl (some (.int v4))) w3) (fun e w => Q (.inr e) w))) (fun e w => Q (.inr e) w))) else (kx_inb x2 (w_n w 12 0 28) = true ∧ zL_X13_sizeAt_p16 E L Q (w_a w 12 0 28 (x2).toNatClampNeg) w)))
theorem zt_X13_sizeAt_p16 {E : zE} {L : Nat} {Q : kx_Rs → wS → Prop} {x2 : Int32} {w : wS} (hL : 23 ≤ L) (h : zb_X13_sizeAt_p16 E L Q x2 w) : kzE E L kt_M538 16 [(0, .ref (w_adr E.2.1 12 0)), (2, .int x2)] [] w Q := by
  unfold zb_X13_sizeAt_p16 at h
  refine kz_aload_n (M := kt_M538) kX13_sizeAt_c1.2.2.1 rfl ?_
  refine kz_gfc (M := kt_M538) (x := 4098) (c := 12) (o := 0) kX13_sizeAt_c1.2.2.2.1 wf_X13_187 (.inl rfl) ?_
  refine kz_iload_n (M := kt_M538) kX13_sizeAt_c1.2.2.2.2.1 rfl ?_
  refine kz_iald (M := kt_M538) (c := 12) (o := 0) (k := 26) (a := (E.2.1 4098)) kX13_sizeAt_c1.2.2.2.2.2.1 ow_12_0_26 oa_12_0_26 ot_0 h (fun h => ?_)
  refine kz_bi (M := kt_M538) 58 kX13_sizeAt_c1.2.2.2.2.2.2.1 rfl ?_
  refine kz_icmp_ne (M := kt_M538) kX13_sizeAt_c1.2.2.2.2.2.2.2.1 (t := 37) rfl h (fun h => ?_) (fun h => ?_)
  · skip
    refine kz_aload_n (M := kt_M538) kX13_sizeAt_c2.2.2.2.2.2.2.1 rfl ?_
    refine kz_aload_n (M := kt_M538) kX13_sizeAt_c2.2.2.2.2.2.2.2.1 rfl ?_
    refine kz_aload_n (M := kt_M538) kX13_sizeAt_c3.1 rfl ?_
    refine kz_gfc (M := kt_M538) (x := 4103) (c := 12) (o := 0) kX13_sizeAt_c3.2.1 wf_X13_202 (.inl rfl) ?_
    refine kz_iload_n (M := kt_M538) kX13_sizeAt_c3.2.2.1 rfl ?_
    refine kz_iald (M := kt_M538) (c := 12) (o := 0) (k := 31) (a := (E.2.1 4103)) kX13_sizeAt_c3.2.2.2.1 ow_12_0_31 oa_12_0_31 ot_0 h (fun h => ?_)
    refine kz_cv1 (M := kt_M538) (c := 12) (o := 0) (As := [.int (w_a w 12 0 31 (x2).toNatClampNeg)]) (rest := [.ref (w_adr E.2.1 12 0)]) kX13_sizeAt_c3.2.2.2.2.1 wl_X13_1210 wMv_540 rfl (.inl rfl) rfl (Nat.le_trans (Nat.le_of_ble_eq_true rfl) hL) (Nat.le_of_ble_eq_true rfl) (Nat.le_of_ble_eq_true rfl) h (fun v2 w1 hle h => ?_) (fun _ _ _ h => kzx_no rfl h)
    have h := h hle
    refine kz_ic (M := kt_M538) 1 kX13_sizeAt_c3.2.2.2.2.2.1 rfl ?_
    refine kz_iadd (M := kt_M538) kX13_sizeAt_c3.2.2.2.2.2.2.1 ?_
    refine kz_cv1 (M := kt_M538) (c := 12) (o := 0) (As := [.int (v2 + 1)]) (rest := []) kX13_sizeAt_c3.2.2.2.2.2.2.2.1 wl_X13_1177 wMv_410 rfl (.inl rfl) rfl (Nat.le_trans (Nat.le_of_ble_eq_true rfl) hL) (Nat.le_of_ble_eq_true rfl) (Nat.le_of_ble_eq_true rfl) h (fun v4 w3 hle h => ?_) (fun _ _ _ h => kzx_no rfl h)
    have h := h hle
    exact kz_iret (M := kt_M538) kX13_sizeAt_c4.1 rfl rfl h
  · skip
    refine kz_aload_n (M := kt_M538) kX13_sizeAt_c2.1 rfl ?_
    refine kz_gfc (M := kt_M538) (x := 4100) (c := 12) (o := 0) kX13_sizeAt_c2.2.1 wf_X13_193 (.inl rfl) ?_
    refine kz_iload_n (M := kt_M538) kX13_sizeAt_c2.2.2.1 rfl ?_
    refine kz_iald (M := kt_M538) (c := 12) (o := 0) (k := 28) (a := (E.2.1 4100)) kX13_sizeAt_c2.2.2.2.1 ow_12_0_28 oa_12_0_28 ot_0 h (fun h => ?_)
    refine kz_sti_n (M := kt_M538) [(0, .ref (w_adr E.2.1 12 0))] kX13_sizeAt_c2.2.2.2.2.1 (Nat.le_of_ble_eq_true rfl) ⟨⟨rfl, rfl, .inl rfl⟩, trivial⟩ rfl ?_
    refine kz_goto (M := kt_M538) kX13_sizeAt_c2.2.2.2.2.2.1 (t := 16) rfl ?_
    exact kz_weak [(0, .ref (w_adr E.2.1 12 0)), (2, .int (w_a w 12 0 28 (x2).toNatClampNeg))] ⟨rfl, ⟨rfl, trivial⟩⟩ rfl h
def zb_X13_sizeAt_p0 (E : zE) (L : Nat) (Q : kx_Rs → wS → Prop) (x1 : Int32) (w : wS) : Prop := zw E (L - 23) kt_M465 [.ref (w_adr E.2.1 12 0), .int x1] w (wk1 (fun v2 w1 => wle w w1 → (if v2 < 0 then zL_X13_sizeAt_p16 E L Q x1 w1 else zw E (L - 23) kt_M465 [.ref (w_adr E.2.1 12 0), .int x1] w1 (wk1 (fun v4 w3 => wle w1 w3 → Q (.inl (some (.int v4))) w3) (fun e w => Q (.inr e) w)))) (fun e w => Q (.inr e) w))
theorem zt_X13_sizeAt_p0 {E : zE} {L : Nat} {Q : kx_Rs → wS → Prop} {x1 : Int32} {w : wS} (hL : 23 ≤ L) (h : zb_X13_sizeAt_p0 E L Q x1 w) : kzE E L kt_M538 0 [(0, .ref (w_adr E.2.1 12 0)), (1, .int x1)] [] w Q := by
  unfold zb_X13_sizeAt_p0 at h
  refine kz_aload_n (M := kt_M538) kX13_sizeAt_c0.1 rfl ?_
  refine kz_iload_n (M := kt_M538) kX13_sizeAt_c0.2.1 rfl ?_
  refine kz_cv1 (M := kt_M538) (c := 12) (o := 0) (As := [.int x1]) (rest := []) kX13_sizeAt_c0.2.2.1 wl_X13_819 wMv_465 rfl (.inl rfl) rfl (Nat.le_trans (Nat.le_of_ble_eq_true rfl) hL) (Nat.le_of_ble_eq_true rfl) (Nat.le_of_ble_eq_true rfl) h (fun v2 w1 hle h => ?_) (fun _ _ _ h => kzx_no rfl h)
  have h := h hle
  refine kz_if_lt (M := kt_M538) kX13_sizeAt_c0.2.2.2.1 (t := 14) rfl h (fun h => ?_) (fun h => ?_)
  · skip
    refine kz_iload_n (M := kt_M538) kX13_sizeAt_c1.1 rfl ?_
    refine kz_sti_n (M := kt_M538) [(0, .ref (w_adr E.2.1 12 0))] kX13_sizeAt_c1.2.1 (Nat.le_of_ble_eq_true rfl) ⟨⟨rfl, rfl, .inl rfl⟩, trivial⟩ rfl ?_
    exact kz_weak [(0, .ref (w_adr E.2.1 12 0)), (2, .int x1)] ⟨rfl, ⟨rfl, trivial⟩⟩ rfl h
  · skip
    refine kz_aload_n (M := kt_M538) kX13_sizeAt_c0.2.2.2.2.1 rfl ?_
    refine kz_iload_n (M := kt_M538) kX13_sizeAt_c0.2.2.2.2.2.1 rfl ?_
    refine kz_cv1 (M := kt_M538) (c := 12) (o := 0) (As := [.int x1]) (rest := []) kX13_sizeAt_c0.2.2.2.2.2.2.1 wl_X13_819 wMv_465 rfl (.inl rfl) rfl (Nat.le_trans (Nat.le_of_ble_eq_true rfl) hL) (Nat.le_of_ble_eq_true rfl) (Nat.le_of_ble_eq_true rfl) h (fun v4 w3 hle h => ?_) (fun _ _ _ h => kzx_no rfl h)
    have h := h hle
    exact kz_iret (M := kt_M538) kX13_sizeAt_c0.2.2.2.2.2.2.2.1 rfl rfl h
def zL_X13_callFunction_p135 (E : zE) (L : Nat) (Q : kx_Rs → wS → Prop) (x2 : Int32) (x3 : Int32) (x4 : Int32) (w : wS) : Prop := kzE E L kt_M363 135 [(0, .ref (w_adr E.2.1 12 0)), (2, .int x2), (3, .int x3), (4, .int x4)] [] w Q
def zb_X13_callFunction_p210 (E : zE) (L : Nat) (Q : kx_Rs → wS → Prop) (x2 : Int32) (x3 : Int32) (x4 : Int32) (x5 : Int32) (w : wS) : Prop := zw E (L - 24) kt_M587 [.ref (w_adr E.2.1 12 0), .int x2, .int x3] (ws_i w 12 0 134 ((w_i w 12 0 134) - 1)) (wk0 (fun w1 => wle (ws_i w 12 0 134 ((w_i w 12 0 134) - 1)) w1 → zw E (L - 21) kt_M416 [.ref (w_adr E.2.1 12 0), .int x3] (ws_i w1 12 0 162 x4) (wk0 (fun w3 => wle (ws_i w1 12 0 162 x4) w3 → Q (.inl (some (.int x5))) w3) (fun e w => Q (.inr e) w))) (fun e w => Q (.inr e) w))
theorem zt_X13_callFunction_p210 {E : zE} {L : Nat} {Q : kx_Rs → wS → Prop} {x2 : Int32} {x3 : Int32} {x4 : Int32} {x5 : Int32} {w : wS} (hL : 27 ≤ L) (h : zb_X13_callFunction_p210 E L Q x2 x3 x4 x5 w) : kzE E L kt_M363 210 [(0, .ref (w_adr E.2.1 12 0)), (2, .int x2), (3, .int x3), (4, .int x4), (5, .int x5)] [] w Q := by
  unfold zb_X13_callFunction_p210 at h
  refine kz_aload_n (M := kt_M363) kX13_callFunction_c15.2.2.1 rfl ?_
  refine kz_dup (M := kt_M363) kX13_callFunction_c15.2.2.2.1 rfl ?_
  refine kz_gfi (M := kt_M363) (c := 12) (o := 0) kX13_callFunction_c15.2.2.2.2.1 wf_X13_1272 (.inl rfl) ?_
  refine kz_ic (M := kt_M363) 1 kX13_callFunction_c15.2.2.2.2.2.1 rfl ?_
  refine kz_isub (M := kt_M363) kX13_callFunction_c15.2.2.2.2.2.2.1 ?_
  refine kz_pfi (M := kt_M363) (c := 12) (o := 0) kX13_callFunction_c15.2.2.2.2.2.2.2.1 wq_X13_1272 (.inl rfl) ?_
  refine kz_aload_n (M := kt_M363) kX13_callFunction_c16.1 rfl ?_
  refine kz_iload_n (M := kt_M363) kX13_callFunction_c16.2.1 rfl ?_
  refine kz_iload_n (M := kt_M363) kX13_callFunction_c16.2.2.1 rfl ?_
  refine kz_cv0 (M := kt_M363) (c := 12) (o := 0) (As := [.int x2, .int x3]) (rest := []) kX13_callFunction_c16.2.2.2.1 wl_X13_1296 wMv_587 rfl (.inl rfl) rfl (Nat.le_trans (Nat.le_of_ble_eq_true rfl) hL) (Nat.le_of_ble_eq_true rfl) (Nat.le_of_ble_eq_true rfl) h (fun w1 hle h => ?_) (fun _ _ _ h => kzx_no rfl h)
  have h := h hle
  refine kz_aload_n (M := kt_M363) kX13_callFunction_c16.2.2.2.2.1 rfl ?_
  refine kz_iload (M := kt_M363) kX13_callFunction_c16.2.2.2.2.2.1 rfl ?_
  refine kz_pfi (M := kt_M363) (c := 12) (o := 0) kX13_callFunction_c16.2.2.2.2.2.2.1 wq_X13_1171 (.inl rfl) ?_
  refine kz_aload_n (M := kt_M363) kX13_callFunction_c16.2.2.2.2.2.2.2.1 rfl ?_
  refine kz_iload_n (M := kt_M363) kX13_callFunction_c17.1 rfl ?_
  refine kz_cv0 (M := kt_M363) (c := 12) (o := 0) (As := [.int x3]) (rest := []) kX13_callFunction_c17.2.1 wl_X13_1299 wMv_416 rfl (.inl rfl) rfl (Nat.le_trans (Nat.le_of_ble_eq_true rfl) hL) (Nat.le_of_ble_eq_true rfl) (Nat.le_of_ble_eq_true rfl) h (fun w3 hle h => ?_) (fun _ _ _ h => kzx_no rfl h)
  have h := h hle
  refine kz_iload (M := kt_M363) kX13_callFunction_c17.2.2.1 rfl ?_
  exact kz_iret (M := kt_M363) kX13_callFunction_c17.2.2.2.1 rfl rfl h
def zb_X13_callFunction_p179 (E : zE) (L : Nat) (Q : kx_Rs → wS → Prop) (x2 : Int32) (x3 : Int32) (x4 : Int32) (w : wS) : Prop := (kx_inb x2 (w_n w 12 0 41) = true ∧ zw E (L - 25) kt_M404 [.ref (w_adr E.2.1 12 0), .int (w_a w 12 0 41 (x2).toNatClampNeg)] w (wk1 (fun v2 w1 => wle w w1 → (kx_inb x2 (w_n w1 12 0 29) = true ∧ (if w_a w1 12 0 29 (x2).toNatClampNeg < 0 then zb_X13_callFunction_p210 E L Q x2 x3 x4 v2 w1 else (kx_inb x2 (w_n w1 12 0 42) = true ∧ zw E (L - 23) kt_M374 [.ref (w_adr E.2.1 12 0), .int (w_a w1 12 0 42 (x2).toNatClampNeg)] w1 (wk0 (fun w3 => wle w1 w3 → zb_X13_callFunction_p210 E L Q x2 x3 x4 v2 w3) (fun e w => Q (.inr e) w)))))) (fun e w => Q (.inr e) w)))
theorem zt_X13_callFunction_p179 {E : zE} {L : Nat} {Q : kx_Rs → wS → Prop} {x2 : Int32} {x3 : Int32} {x4 : Int32} {w : wS} (hL : 27 ≤ L) (h : zb_X13_callFunction_p179 E L Q x2 x3 x4 w) : kzE E L kt_M363 179 [(0, .ref (w_adr E.2.1 12 0)), (2, .int x2), (3, .int x3), (4, .int x4)] [] w Q := by
  unfold zb_X13_callFunction_p179 at h
  refine kz_aload_n (M := kt_M363) kX13_callFunction_c13.1 rfl ?_
  refine kz_aload_n (M := kt_M363) kX13_callFunction_c13.2.1 rfl ?_
  refine kz_gfc (M := kt_M363) (x := 4113) (c := 12) (o := 0) kX13_callFunction_c13.2.2.1 wf_X13_214 (.inl rfl) ?_
  refine kz_iload_n (M := kt_M363) kX13_callFunction_c13.2.2.2.1 rfl ?_
  refine kz_iald (M := kt_M363) (c := 12) (o := 0) (k := 41) (a := (E.2.1 4113)) kX13_callFunction_c13.2.2.2.2.1 ow_12_0_41 oa_12_0_41 ot_0 h (fun h => ?_)
  refine kz_cv1 (M := kt_M363) (c := 12) (o := 0) (As := [.int (w_a w 12 0 41 (x2).toNatClampNeg)]) (rest := []) kX13_callFunction_c13.2.2.2.2.2.1 wl_X13_1207 wMv_404 rfl (.inl rfl) rfl (Nat.le_trans (Nat.le_of_ble_eq_true rfl) hL) (Nat.le_of_ble_eq_true rfl) (Nat.le_of_ble_eq_true rfl) h (fun v2 w1 hle h => ?_) (fun _ _ _ h => kzx_no rfl h)
  have h := h hle
  refine kz_sti (M := kt_M363) [(0, .ref (w_adr E.2.1 12 0)), (2, .int x2), (3, .int x3), (4, .int x4)] kX13_callFunction_c13.2.2.2.2.2.2.1 (Nat.le_of_ble_eq_true rfl) ⟨⟨rfl, rfl, .inl rfl⟩, ⟨⟨rfl, rfl, .inl rfl⟩, ⟨⟨rfl, rfl, .inl rfl⟩, ⟨⟨rfl, rfl, .inr rfl⟩, trivial⟩⟩⟩⟩ rfl ?_
  refine kz_aload_n (M := kt_M363) kX13_callFunction_c13.2.2.2.2.2.2.2.1 rfl ?_
  refine kz_gfc (M := kt_M363) (x := 4101) (c := 12) (o := 0) kX13_callFunction_c14.1 wf_X13_196 (.inl rfl) ?_
  refine kz_iload_n (M := kt_M363) kX13_callFunction_c14.2.1 rfl ?_
  refine kz_iald (M := kt_M363) (c := 12) (o := 0) (k := 29) (a := (E.2.1 4101)) kX13_callFunction_c14.2.2.1 ow_12_0_29 oa_12_0_29 ot_0 h (fun h => ?_)
  refine kz_if_lt (M := kt_M363) kX13_callFunction_c14.2.2.2.1 (t := 210) rfl h (fun h => ?_) (fun h => ?_)
  · skip
    exact kz_weak [(0, .ref (w_adr E.2.1 12 0)), (2, .int x2), (3, .int x3), (4, .int x4), (5, .int v2)] ⟨rfl, ⟨rfl, ⟨rfl, ⟨rfl, ⟨rfl, trivial⟩⟩⟩⟩⟩ rfl (zt_X13_callFunction_p210 hL  h)
  · skip
    refine kz_aload_n (M := kt_M363) kX13_callFunction_c14.2.2.2.2.1 rfl ?_
    refine kz_aload_n (M := kt_M363) kX13_callFunction_c14.2.2.2.2.2.1 rfl ?_
    refine kz_gfc (M := kt_M363) (x := 4114) (c := 12) (o := 0) kX13_callFunction_c14.2.2.2.2.2.2.1 wf_X13_217 (.inl rfl) ?_
    refine kz_iload_n (M := kt_M363) kX13_callFunction_c14.2.2.2.2.2.2.2.1 rfl ?_
    refine kz_iald (M := kt_M363) (c := 12) (o := 0) (k := 42) (a := (E.2.1 4114)) kX13_callFunction_c15.1 ow_12_0_42 oa_12_0_42 ot_0 h (fun h => ?_)
    refine kz_cv0 (M := kt_M363) (c := 12) (o := 0) (As := [.int (w_a w1 12 0 42 (x2).toNatClampNeg)]) (rest := []) kX13_callFunction_c15.2.1 wl_X13_1293 wMv_374 rfl (.inl rfl) rfl (Nat.le_trans (Nat.le_of_ble_eq_true rfl) hL) (Nat.le_of_ble_eq_true rfl) (Nat.le_of_ble_eq_true rfl) h (fun w3 hle h => ?_) (fun _ _ _ h => kzx_no rfl h)
    have h := h hle
    exact kz_weak [(0, .ref (w_adr E.2.1 12 0)), (2, .int x2), (3, .int x3), (4, .int x4), (5, .int v2)] ⟨rfl, ⟨rfl, ⟨rfl, ⟨rfl, ⟨rfl, trivial⟩⟩⟩⟩⟩ rfl (zt_X13_callFunction_p210 hL  h)
def zb_X13_callFunction_p135 (E : zE) (L : Nat) (Q : kx_Rs → wS → Prop) (x2 : Int32) (x3 : Int32) (x4 : Int32) (w : wS) : Prop := zw E (L - 22) kt_M403 [.ref (w_adr E.2.1 12 0), .int (w_i w 12 0 163), .int 0] w (wk1 (fun v2 w1 => wle w w1 → (if v2 = 4 then zw E (L - 21) kt_M511 [.ref (w_adr E.2.1 12 0)] w1 (wk0 (fun w3 => wle w1 w3 → zb_X13_callFunction_p179 E L Q x2 x3 x4 w3) (fun e w => Q (.inr e) w)) else zw E (L - 20) kt_M381 [.ref (w_adr E.2.1 12 0)] w1 (wk0 (fun w5 => wle w1 w5 → zw E (L - 23) kt_M340 [.ref (w_adr E.2.1 12 0)] w5 (wk0 (fun w7 => wle w5 w7 → zw E (L - 21) kt_M392 [.ref (w_adr E.2.1 12 0), .int (w_i w5 12 0 170)] w7 (wk0 (fun w9 => wle w7 w9 → zw E (L - 22) kt_M420 [.ref (w_adr E.2.1 12 0)] w9 (wk0 (fun w11 => wle w9 w11 → zL_X13_callFunction_p135 E L Q x2 x3 x4 w11) (fun e w => Q (.inr e) w))) (fun e w => Q (.inr e) w))) (fun e w => Q (.inr e) w))) (fun e w => Q (.inr e) w)))) (fun e w => Q (.inr e) w))
theorem zt_X13_callFunction_p135 {E : zE} {L : Nat} {Q : kx_Rs → wS → Prop} {x2 : Int32} {x3 : Int32} {x4 : Int32} {w : wS} (hL : 27 ≤ L) (h : zb_X13_callFunction_p135 E L Q x2 x3 x4 w) : kzE E L kt_M363 135 [(0, .ref (w_adr E.2.1 12 0)), (2, .int x2), (3, .int x3), (4, .int x4)] [] w Q := by
  unfold zb_X13_callFunction_p135 at h
  refine kz_aload_n (M := kt_M363) kX13_callFunction_c10.2.2.1 rfl ?_
  refine kz_aload_n (M := kt_M363) kX13_callFunction_c10.2.2.2.1 rfl ?_
  refine kz_gfi (M := kt_M363) (c := 12) (o := 0) kX13_callFunction_c10.2.2.2.2.1 wf_X13_1165 (.inl rfl) ?_
  refine kz_ic (M := kt_M363) 0 kX13_callFunction_c10.2.2.2.2.2.1 rfl ?_
  refine kz_cv1 (M := kt_M363) (c := 12) (o := 0) (As := [.int (w_i w 12 0 163), .int 0]) (rest := []) kX13_callFunction_c10.2.2.2.2.2.2.1 wl_X13_1155 wMv_403 rfl (.inl rfl) rfl (Nat.le_trans (Nat.le_of_ble_eq_true rfl) hL) (Nat.le_of_ble_eq_true rfl) (Nat.le_of_ble_eq_true rfl) h (fun v2 w1 hle h => ?_) (fun _ _ _ h => kzx_no rfl h)
  have h := h hle
  refine kz_ic (M := kt_M363) 4 kX13_callFunction_c10.2.2.2.2.2.2.2.1 rfl ?_
  refine kz_icmp_eq (M := kt_M363) kX13_callFunction_c11.1 (t := 175) rfl h (fun h => ?_) (fun h => ?_)
  · skip
    refine kz_aload_n (M := kt_M363) kX13_callFunction_c12.2.2.2.2.2.2.1 rfl ?_
    refine kz_cv0 (M := kt_M363) (c := 12) (o := 0) (As := []) (rest := []) kX13_callFunction_c12.2.2.2.2.2.2.2.1 wl_X13_1290 wMv_511 rfl (.inl rfl) rfl (Nat.le_trans (Nat.le_of_ble_eq_true rfl) hL) (Nat.le_of_ble_eq_true rfl) (Nat.le_of_ble_eq_true rfl) h (fun w3 hle h => ?_) (fun _ _ _ h => kzx_no rfl h)
    have h := h hle
    exact kz_weak [(0, .ref (w_adr E.2.1 12 0)), (2, .int x2), (3, .int x3), (4, .int x4)] ⟨rfl, ⟨rfl, ⟨rfl, ⟨rfl, trivial⟩⟩⟩⟩ rfl (zt_X13_callFunction_p179 hL  h)
  · skip
    refine kz_aload_n (M := kt_M363) kX13_callFunction_c11.2.1 rfl ?_
    refine kz_cv0 (M := kt_M363) (c := 12) (o := 0) (As := []) (rest := []) kX13_callFunction_c11.2.2.1 wl_X13_1269 wMv_381 rfl (.inl rfl) rfl (Nat.le_trans (Nat.le_of_ble_eq_true rfl) hL) (Nat.le_of_ble_eq_true rfl) (Nat.le_of_ble_eq_true rfl) h (fun w5 hle h => ?_) (fun _ _ _ h => kzx_no rfl h)
    have h := h hle
    refine kz_aload_n (M := kt_M363) kX13_callFunction_c11.2.2.2.1 rfl ?_
    refine kz_gfi (M := kt_M363) (c := 12) (o := 0) kX13_callFunction_c11.2.2.2.2.1 wf_X13_1201 (.inl rfl) ?_
    refine kz_sti (M := kt_M363) [(0, .ref (w_adr E.2.1 12 0)), (2, .int x2), (3, .int x3), (4, .int x4)] kX13_callFunction_c11.2.2.2.2.2.1 (Nat.le_of_ble_eq_true rfl) ⟨⟨rfl, rfl, .inl rfl⟩, ⟨⟨rfl, rfl, .inl rfl⟩, ⟨⟨rfl, rfl, .inl rfl⟩, ⟨⟨rfl, rfl, .inr rfl⟩, trivial⟩⟩⟩⟩ rfl ?_
    refine kz_aload_n (M := kt_M363) kX13_callFunction_c11.2.2.2.2.2.2.1 rfl ?_
    refine kz_cv0 (M := kt_M363) (c := 12) (o := 0) (As := []) (rest := []) kX13_callFunction_c11.2.2.2.2.2.2.2.1 wl_X13_1284 wMv_340 rfl (.inl rfl) rfl (Nat.le_trans (Nat.le_of_ble_eq_true rfl) hL) (Nat.le_of_ble_eq_true rfl) (Nat.le_of_ble_eq_true rfl) h (fun w7 hle h => ?_) (fun _ _ _ h => kzx_no rfl h)
    have h := h hle
    refine kz_aload_n (M := kt_M363) kX13_callFunction_c12.1 rfl ?_
    refine kz_iload (M := kt_M363) kX13_callFunction_c12.2.1 rfl ?_
    refine kz_cv0 (M := kt_M363) (c := 12) (o := 0) (As := [.int (w_i w5 12 0 170)]) (rest := []) kX13_callFunction_c12.2.2.1 wl_X13_1287 wMv_392 rfl (.inl rfl) rfl (Nat.le_trans (Nat.le_of_ble_eq_true rfl) hL) (Nat.le_of_ble_eq_true rfl) (Nat.le_of_ble_eq_true rfl) h (fun w9 hle h => ?_) (fun _ _ _ h => kzx_no rfl h)
    have h := h hle
    refine kz_aload_n (M := kt_M363) kX13_callFunction_c12.2.2.2.1 rfl ?_
    refine kz_cv0 (M := kt_M363) (c := 12) (o := 0) (As := []) (rest := []) kX13_callFunction_c12.2.2.2.2.1 wl_X13_1281 wMv_420 rfl (.inl rfl) rfl (Nat.le_trans (Nat.le_of_ble_eq_true rfl) hL) (Nat.le_of_ble_eq_true rfl) (Nat.le_of_ble_eq_true rfl) h (fun w11 hle h => ?_) (fun _ _ _ h => kzx_no rfl h)
    have h := h hle
    refine kz_goto (M := kt_M363) kX13_callFunction_c12.2.2.2.2.2.1 (t := 135) rfl ?_
    exact kz_weak [(0, .ref (w_adr E.2.1 12 0)), (2, .int x2), (3, .int x3), (4, .int x4)] ⟨rfl, ⟨rfl, ⟨rfl, ⟨rfl, trivial⟩⟩⟩⟩ rfl h
def zb_X13_callFunction_p0 (E : zE) (L : Nat) (Q : kx_Rs → wS → Prop) (x1 : Int32) (w : wS) : Prop := (kx_inb x1 (w_n w 12 0 31) = true ∧ (kx_inb (w_a w 12 0 31 (x1).toNatClampNeg) (w_n w 12 0 49) = true ∧ (kx_inb (w_a w 12 0 49 (w_a w 12 0 31 (x1).toNatClampNeg).toNatClampNeg) (w_n w 12 0 63) = true ∧ (kx_inb (w_a w 12 0 49 (w_a w 12 0 31 (x1).toNatClampNeg).toNatClampNeg) (w_n w 12 0 63) = true ∧ (kx_inb (w_a w 12 0 63 (w_a w 12 0 49 (w_a w 12 0 31 (x1).toNatClampNeg).toNatClampNeg).toNatClampNeg) (w_n w 12 0 60) = true ∧ zw E (L - 22) kt_M415 [.ref (w_adr E.2.1 12 0), .int (w_a w 12 0 60 (w_a w 12 0 63 (w_a w 12 0 49 (w_a w 12 0 31 (x1).toNatClampNeg).toNatClampNeg).toNatClampNeg).toNatClampNeg)] w (wk1 (fun v2 w1 => wle w w1 → zw E (L - 23) kt_M490 [.ref (w_adr E.2.1 12 0), .int (w_a w 12 0 63 (w_a w 12 0 49 (w_a w 12 0 31 (x1).toNatClampNeg).toNatClampNeg).toNatClampNeg), .int v2] w1 (wk1 (fun v4 w3 => wle w1 w3 → (kx_inb x1 (w_n w3 12 0 28) = true ∧ zw E (L - 27) kt_M360 [.ref (w_adr E.2.1 12 0), .int (w_a w3 12 0 28 (x1).toNatClampNeg), .int (w_a w 12 0 49 (w_a w 12 0 31 (x1).toNatClampNeg).toNatClampNeg), .int v4] w3 (wk0 (fun w5 => wle w3 w5 → zw E (L - 20) kt_M381 [.ref (w_adr E.2.1 12 0)] w5 (wk0 (fun w7 => wle w5 w7 → (if ¬ w_i w7 12 0 134 = 20 then (kx_inb (w_a w 12 0 49 (w_a w 12 0 31 (x1).toNatClampNeg).toNatClampNeg) (w_n w7 12 0 29) = true ∧ (if w_a w7 12 0 29 (w_a w 12 0 49 (w_a w 12 0 31 (x1).toNatClampNeg).toNatClampNeg).toNatClampNeg < 0 then zb_X13_callFunction_p179 E L Q (w_a w 12 0 49 (w_a w 12 0 31 (x1).toNatClampNeg).toNatClampNeg) v4 (w_i w7 12 0 162) (ws_i (ws_i w7 12 0 162 v4) 12 0 134 ((w_i w7 12 0 134) + 1)) else (kx_inb (w_a w 12 0 49 (w_a w 12 0 31 (x1).toNatClampNeg).toNatClampNeg) (w_n w7 12 0 42) = true ∧ zw E (L - 23) kt_M384 [.ref (w_adr E.2.1 12 0), .int (w_a w7 12 0 42 (w_a w 12 0 49 (w_a w 12 0 31 (x1).toNatClampNeg).toNatClampNeg).toNatClampNeg)] (ws_i (ws_i w7 12 0 162 v4) 12 0 134 ((w_i w7 12 0 134) + 1)) (wk0 (fun w9 => wle (ws_i (ws_i w7 12 0 162 v4) 12 0 134 ((w_i w7 12 0 134) + 1)) w9 → zw E (L - 25) kt_M518 [.ref (w_adr E.2.1 12 0), .int 4, .int (w_a w 12 0 49 (w_a w 12 0 31 (x1).toNatClampNeg).toNatClampNeg), .int 0, .int 0] w9 (wk0 (fun w11 => wle w9 w11 → (kx_inb (w_a w 12 0 49 (w_a w 12 0 31 (x1).toNatClampNeg).toNatClampNeg) (w_n w11 12 0 29) = true ∧ zw E (L - 25) kt_M518 [.ref (w_adr E.2.1 12 0), .int 0, .int (w_a w11 12 0 29 (w_a w 12 0 49 (w_a w 12 0 31 (x1).toNatClampNeg).toNatClampNeg).toNatClampNeg), .int 0, .int 0] w11 (wk0 (fun w13 => wle w11 w13 → zw E (L - 22) kt_M420 [.ref (w_adr E.2.1 12 0)] w13 (wk0 (fun w15 => wle w13 w15 → zL_X13_callFunction_p135 E L Q (w_a w 12 0 49 (w_a w 12 0 31 (x1).toNatClampNeg).toNatClampNeg) v4 (w_i w7 12 0 162) w15) (fun e w => Q (.inr e) w))) (fun e w => Q (.inr e) w)))) (fun e w => Q (.inr e) w))) (fun e w => Q (.inr e) w))))) else zw E (L - 21) kt_M408 [.ref (w_adr E.2.1 12 0), .int 11] w7 (wkr (fun v18 w17 => wle w7 w17 → (v18 = some (w_adr E.2.1 13 0) ∧ Q (.inr "MeetingHouseModel$Halt") w17)) (fun e w => Q (.inr e) w)))) (fun e w => Q (.inr e) w))) (fun e w => Q (.inr e) w)))) (fun e w => Q (.inr e) w))) (fun e w => Q (.inr e) w)))))))
theorem zt_X13_callFunction_p0 {E : zE} {L : Nat} {Q : kx_Rs → wS → Prop} {x1 : Int32} {w : wS} (hL : 27 ≤ L) (h : zb_X13_callFunction_p0 E L Q x1 w) : kzE E L kt_M363 0 [(0, .ref (w_adr E.2.1 12 0)), (1, .int x1)] [] w Q := by
  unfold zb_X13_callFunction_p0 at h
  refine kz_aload_n (M := kt_M363) kX13_callFunction_c0.1 rfl ?_
  refine kz_gfc (M := kt_M363) (x := 4121) (c := 12) (o := 0) kX13_callFunction_c0.2.1 wf_X13_232 (.inl rfl) ?_
  refine kz_aload_n (M := kt_M363) kX13_callFunction_c0.2.2.1 rfl ?_
  refine kz_gfc (M := kt_M363) (x := 4103) (c := 12) (o := 0) kX13_callFunction_c0.2.2.2.1 wf_X13_202 (.inl rfl) ?_
  refine kz_iload_n (M := kt_M363) kX13_callFunction_c0.2.2.2.2.1 rfl ?_
  refine kz_iald (M := kt_M363) (c := 12) (o := 0) (k := 31) (a := (E.2.1 4103)) kX13_callFunction_c0.2.2.2.2.2.1 ow_12_0_31 oa_12_0_31 ot_0 h (fun h => ?_)
  refine kz_iald (M := kt_M363) (c := 12) (o := 0) (k := 49) (a := (E.2.1 4121)) kX13_callFunction_c0.2.2.2.2.2.2.1 ow_12_0_49 oa_12_0_49 ot_0 h (fun h => ?_)
  refine kz_sti_n (M := kt_M363) [(0, .ref (w_adr E.2.1 12 0)), (1, .int x1)] kX13_callFunction_c0.2.2.2.2.2.2.2.1 (Nat.le_of_ble_eq_true rfl) ⟨⟨rfl, rfl, .inl rfl⟩, ⟨⟨rfl, rfl, .inr rfl⟩, trivial⟩⟩ rfl ?_
  refine kz_aload_n (M := kt_M363) kX13_callFunction_c1.1 rfl ?_
  refine kz_aload_n (M := kt_M363) kX13_callFunction_c1.2.1 rfl ?_
  refine kz_gfc (M := kt_M363) (x := 4135) (c := 12) (o := 0) kX13_callFunction_c1.2.2.1 wf_X13_263 (.inl rfl) ?_
  refine kz_iload_n (M := kt_M363) kX13_callFunction_c1.2.2.2.1 rfl ?_
  refine kz_iald (M := kt_M363) (c := 12) (o := 0) (k := 63) (a := (E.2.1 4135)) kX13_callFunction_c1.2.2.2.2.1 ow_12_0_63 oa_12_0_63 ot_0 h (fun h => ?_)
  refine kz_aload_n (M := kt_M363) kX13_callFunction_c1.2.2.2.2.2.1 rfl ?_
  refine kz_aload_n (M := kt_M363) kX13_callFunction_c1.2.2.2.2.2.2.1 rfl ?_
  refine kz_gfc (M := kt_M363) (x := 4132) (c := 12) (o := 0) kX13_callFunction_c1.2.2.2.2.2.2.2.1 wf_X13_257 (.inl rfl) ?_
  refine kz_aload_n (M := kt_M363) kX13_callFunction_c2.1 rfl ?_
  refine kz_gfc (M := kt_M363) (x := 4135) (c := 12) (o := 0) kX13_callFunction_c2.2.1 wf_X13_263 (.inl rfl) ?_
  refine kz_iload_n (M := kt_M363) kX13_callFunction_c2.2.2.1 rfl ?_
  refine kz_iald (M := kt_M363) (c := 12) (o := 0) (k := 63) (a := (E.2.1 4135)) kX13_callFunction_c2.2.2.2.1 ow_12_0_63 oa_12_0_63 ot_0 h (fun h => ?_)
  refine kz_iald (M := kt_M363) (c := 12) (o := 0) (k := 60) (a := (E.2.1 4132)) kX13_callFunction_c2.2.2.2.2.1 ow_12_0_60 oa_12_0_60 ot_0 h (fun h => ?_)
  refine kz_cv1 (M := kt_M363) (c := 12) (o := 0) (As := [.int (w_a w 12 0 60 (w_a w 12 0 63 (w_a w 12 0 49 (w_a w 12 0 31 (x1).toNatClampNeg).toNatClampNeg).toNatClampNeg).toNatClampNeg)]) (rest := [.int (w_a w 12 0 63 (w_a w 12 0 49 (w_a w 12 0 31 (x1).toNatClampNeg).toNatClampNeg).toNatClampNeg), .ref (w_adr E.2.1 12 0)]) kX13_callFunction_c2.2.2.2.2.2.1 wl_X13_1183 wMv_415 rfl (.inl rfl) rfl (Nat.le_trans (Nat.le_of_ble_eq_true rfl) hL) (Nat.le_of_ble_eq_true rfl) (Nat.le_of_ble_eq_true rfl) h (fun v2 w1 hle h => ?_) (fun _ _ _ h => kzx_no rfl h)
  have h := h hle
  refine kz_cv1 (M := kt_M363) (c := 12) (o := 0) (As := [.int (w_a w 12 0 63 (w_a w 12 0 49 (w_a w 12 0 31 (x1).toNatClampNeg).toNatClampNeg).toNatClampNeg), .int v2]) (rest := []) kX13_callFunction_c2.2.2.2.2.2.2.1 wl_X13_1263 wMv_490 rfl (.inl rfl) rfl (Nat.le_trans (Nat.le_of_ble_eq_true rfl) hL) (Nat.le_of_ble_eq_true rfl) (Nat.le_of_ble_eq_true rfl) h (fun v4 w3 hle h => ?_) (fun _ _ _ h => kzx_no rfl h)
  have h := h hle
  refine kz_sti_n (M := kt_M363) [(0, .ref (w_adr E.2.1 12 0)), (1, .int x1), (2, .int (w_a w 12 0 49 (w_a w 12 0 31 (x1).toNatClampNeg).toNatClampNeg))] kX13_callFunction_c2.2.2.2.2.2.2.2.1 (Nat.le_of_ble_eq_true rfl) ⟨⟨rfl, rfl, .inl rfl⟩, ⟨⟨rfl, rfl, .inl rfl⟩, ⟨⟨rfl, rfl, .inr rfl⟩, trivial⟩⟩⟩ rfl ?_
  refine kz_aload_n (M := kt_M363) kX13_callFunction_c3.1 rfl ?_
  refine kz_aload_n (M := kt_M363) kX13_callFunction_c3.2.1 rfl ?_
  refine kz_gfc (M := kt_M363) (x := 4100) (c := 12) (o := 0) kX13_callFunction_c3.2.2.1 wf_X13_193 (.inl rfl) ?_
  refine kz_iload_n (M := kt_M363) kX13_callFunction_c3.2.2.2.1 rfl ?_
  refine kz_iald (M := kt_M363) (c := 12) (o := 0) (k := 28) (a := (E.2.1 4100)) kX13_callFunction_c3.2.2.2.2.1 ow_12_0_28 oa_12_0_28 ot_0 h (fun h => ?_)
  refine kz_iload_n (M := kt_M363) kX13_callFunction_c3.2.2.2.2.2.1 rfl ?_
  refine kz_iload_n (M := kt_M363) kX13_callFunction_c3.2.2.2.2.2.2.1 rfl ?_
  refine kz_cv0 (M := kt_M363) (c := 12) (o := 0) (As := [.int (w_a w3 12 0 28 (x1).toNatClampNeg), .int (w_a w 12 0 49 (w_a w 12 0 31 (x1).toNatClampNeg).toNatClampNeg), .int v4]) (rest := []) kX13_callFunction_c3.2.2.2.2.2.2.2.1 wl_X13_1266 wMv_360 rfl (.inl rfl) rfl (Nat.le_trans (Nat.le_of_ble_eq_true rfl) hL) (Nat.le_of_ble_eq_true rfl) (Nat.le_of_ble_eq_true rfl) h (fun w5 hle h => ?_) (fun _ _ _ h => kzx_no rfl h)
  have h := h hle
  refine kz_aload_n (M := kt_M363) kX13_callFunction_c4.1 rfl ?_
  refine kz_cv0 (M := kt_M363) (c := 12) (o := 0) (As := []) (rest := []) kX13_callFunction_c4.2.1 wl_X13_1269 wMv_381 rfl (.inl rfl) rfl (Nat.le_trans (Nat.le_of_ble_eq_true rfl) hL) (Nat.le_of_ble_eq_true rfl) (Nat.le_of_ble_eq_true rfl) h (fun w7 hle h => ?_) (fun _ _ _ h => kzx_no rfl h)
  have h := h hle
  refine kz_aload_n (M := kt_M363) kX13_callFunction_c4.2.2.1 rfl ?_
  refine kz_gfi (M := kt_M363) (c := 12) (o := 0) kX13_callFunction_c4.2.2.2.1 wf_X13_1272 (.inl rfl) ?_
  refine kz_bi (M := kt_M363) 20 kX13_callFunction_c4.2.2.2.2.1 rfl ?_
  refine kz_icmp_ne (M := kt_M363) kX13_callFunction_c4.2.2.2.2.2.1 (t := 70) rfl h (fun h => ?_) (fun h => ?_)
  · skip
    refine kz_aload_n (M := kt_M363) kX13_callFunction_c5.2.2.1 rfl ?_
    refine kz_gfi (M := kt_M363) (c := 12) (o := 0) kX13_callFunction_c5.2.2.2.1 wf_X13_1171 (.inl rfl) ?_
    refine kz_sti (M := kt_M363) [(0, .ref (w_adr E.2.1 12 0)), (2, .int (w_a w 12 0 49 (w_a w 12 0 31 (x1).toNatClampNeg).toNatClampNeg)), (3, .int v4)] kX13_callFunction_c5.2.2.2.2.1 (Nat.le_of_ble_eq_true rfl) ⟨⟨rfl, rfl, .inl rfl⟩, ⟨⟨rfl, rfl, .inl rfl⟩, ⟨⟨rfl, rfl, .inr rfl⟩, trivial⟩⟩⟩ rfl ?_
    refine kz_aload_n (M := kt_M363) kX13_callFunction_c5.2.2.2.2.2.1 rfl ?_
    refine kz_iload_n (M := kt_M363) kX13_callFunction_c5.2.2.2.2.2.2.1 rfl ?_
    refine kz_pfi (M := kt_M363) (c := 12) (o := 0) kX13_callFunction_c5.2.2.2.2.2.2.2.1 wq_X13_1171 (.inl rfl) ?_
    refine kz_aload_n (M := kt_M363) kX13_callFunction_c6.1 rfl ?_
    refine kz_dup (M := kt_M363) kX13_callFunction_c6.2.1 rfl ?_
    refine kz_gfiR (M := kt_M363) (c := 12) (o := 0) (w_i w7 12 0 134) kX13_callFunction_c6.2.2.1 wf_X13_1272 (.inl rfl) (rd_i_i rfl) ?_
    refine kz_ic (M := kt_M363) 1 kX13_callFunction_c6.2.2.2.1 rfl ?_
    refine kz_iadd (M := kt_M363) kX13_callFunction_c6.2.2.2.2.1 ?_
    refine kz_pfi (M := kt_M363) (c := 12) (o := 0) kX13_callFunction_c6.2.2.2.2.2.1 wq_X13_1272 (.inl rfl) ?_
    refine kz_aload_n (M := kt_M363) kX13_callFunction_c6.2.2.2.2.2.2.1 rfl ?_
    refine kz_gfc (M := kt_M363) (x := 4101) (c := 12) (o := 0) kX13_callFunction_c6.2.2.2.2.2.2.2.1 wf_X13_196 (.inl rfl) ?_
    refine kz_iload_n (M := kt_M363) kX13_callFunction_c7.1 rfl ?_
    refine kz_ialdR (M := kt_M363) (n := w_n w7 12 0 29) (c := 12) (o := 0) (k := 29) (a := (E.2.1 4101)) (w_a w7 12 0 29 (w_a w 12 0 49 (w_a w 12 0 31 (x1).toNatClampNeg).toNatClampNeg).toNatClampNeg) kX13_callFunction_c7.2.1 ow_12_0_29 oa_12_0_29 ot_0 (rd_n_i.trans rd_n_i) (rd_a_i.trans rd_a_i) h (fun h => ?_)
    refine kz_if_lt (M := kt_M363) kX13_callFunction_c7.2.2.1 (t := 179) rfl h (fun h => ?_) (fun h => ?_)
    · skip
      exact kz_weak [(0, .ref (w_adr E.2.1 12 0)), (2, .int (w_a w 12 0 49 (w_a w 12 0 31 (x1).toNatClampNeg).toNatClampNeg)), (3, .int v4), (4, .int (w_i w7 12 0 162))] ⟨rfl, ⟨rfl, ⟨rfl, ⟨rfl, trivial⟩⟩⟩⟩ rfl (zt_X13_callFunction_p179 hL  h)
    · skip
      refine kz_aload_n (M := kt_M363) kX13_callFunction_c7.2.2.2.1 rfl ?_
      refine kz_aload_n (M := kt_M363) kX13_callFunction_c7.2.2.2.2.1 rfl ?_
      refine kz_gfc (M := kt_M363) (x := 4114) (c := 12) (o := 0) kX13_callFunction_c7.2.2.2.2.2.1 wf_X13_217 (.inl rfl) ?_
      refine kz_iload_n (M := kt_M363) kX13_callFunction_c7.2.2.2.2.2.2.1 rfl ?_
      refine kz_ialdR (M := kt_M363) (n := w_n w7 12 0 42) (c := 12) (o := 0) (k := 42) (a := (E.2.1 4114)) (w_a w7 12 0 42 (w_a w 12 0 49 (w_a w 12 0 31 (x1).toNatClampNeg).toNatClampNeg).toNatClampNeg) kX13_callFunction_c7.2.2.2.2.2.2.2.1 ow_12_0_42 oa_12_0_42 ot_0 (rd_n_i.trans rd_n_i) (rd_a_i.trans rd_a_i) h (fun h => ?_)
      refine kz_cv0 (M := kt_M363) (c := 12) (o := 0) (As := [.int (w_a w7 12 0 42 (w_a w 12 0 49 (w_a w 12 0 31 (x1).toNatClampNeg).toNatClampNeg).toNatClampNeg)]) (rest := []) kX13_callFunction_c8.1 wl_X13_1275 wMv_384 rfl (.inl rfl) rfl (Nat.le_trans (Nat.le_of_ble_eq_true rfl) hL) (Nat.le_of_ble_eq_true rfl) (Nat.le_of_ble_eq_true rfl) h (fun w9 hle h => ?_) (fun _ _ _ h => kzx_no rfl h)
      have h := h hle
      refine kz_aload_n (M := kt_M363) kX13_callFunction_c8.2.1 rfl ?_
      refine kz_ic (M := kt_M363) 4 kX13_callFunction_c8.2.2.1 rfl ?_
      refine kz_iload_n (M := kt_M363) kX13_callFunction_c8.2.2.2.1 rfl ?_
      refine kz_ic (M := kt_M363) 0 kX13_callFunction_c8.2.2.2.2.1 rfl ?_
      refine kz_ic (M := kt_M363) 0 kX13_callFunction_c8.2.2.2.2.2.1 rfl ?_
      refine kz_cv0 (M := kt_M363) (c := 12) (o := 0) (As := [.int 4, .int (w_a w 12 0 49 (w_a w 12 0 31 (x1).toNatClampNeg).toNatClampNeg), .int 0, .int 0]) (rest := []) kX13_callFunction_c8.2.2.2.2.2.2.1 wl_X13_1278 wMv_518 rfl (.inl rfl) rfl (Nat.le_trans (Nat.le_of_ble_eq_true rfl) hL) (Nat.le_of_ble_eq_true rfl) (Nat.le_of_ble_eq_true rfl) h (fun w11 hle h => ?_) (fun _ _ _ h => kzx_no rfl h)
      have h := h hle
      refine kz_aload_n (M := kt_M363) kX13_callFunction_c8.2.2.2.2.2.2.2.1 rfl ?_
      refine kz_ic (M := kt_M363) 0 kX13_callFunction_c9.1 rfl ?_
      refine kz_aload_n (M := kt_M363) kX13_callFunction_c9.2.1 rfl ?_
      refine kz_gfc (M := kt_M363) (x := 4101) (c := 12) (o := 0) kX13_callFunction_c9.2.2.1 wf_X13_196 (.inl rfl) ?_
      refine kz_iload_n (M := kt_M363) kX13_callFunction_c9.2.2.2.1 rfl ?_
      refine kz_iald (M := kt_M363) (c := 12) (o := 0) (k := 29) (a := (E.2.1 4101)) kX13_callFunction_c9.2.2.2.2.1 ow_12_0_29 oa_12_0_29 ot_0 h (fun h => ?_)
      refine kz_ic (M := kt_M363) 0 kX13_callFunction_c9.2.2.2.2.2.1 rfl ?_
      refine kz_ic (M := kt_M363) 0 kX13_callFunction_c9.2.2.2.2.2.2.1 rfl ?_
      refine kz_cv0 (M := kt_M363) (c := 12) (o := 0) (As := [.int 0, .int (w_a w11 12 0 29 (w_a w 12 0 49 (w_a w 12 0 31 (x1).toNatClampNeg).toNatClampNeg).toNatClampNeg), .int 0, .int 0]) (rest := []) kX13_callFunction_c9.2.2.2.2.2.2.2.1 wl_X13_1278 wMv_518 rfl (.inl rfl) rfl (Nat.le_trans (Nat.le_of_ble_eq_true rfl) hL) (Nat.le_of_ble_eq_true rfl) (Nat.le_of_ble_eq_true rfl) h (fun w13 hle h => ?_) (fun _ _ _ h => kzx_no rfl h)
      have h := h hle
      refine kz_aload_n (M := kt_M363) kX13_callFunction_c10.1 rfl ?_
      refine kz_cv0 (M := kt_M363) (c := 12) (o := 0) (As := []) (rest := []) kX13_callFunction_c10.2.1 wl_X13_1281 wMv_420 rfl (.inl rfl) rfl (Nat.le_trans (Nat.le_of_ble_eq_true rfl) hL) (Nat.le_of_ble_eq_true rfl) (Nat.le_of_ble_eq_true rfl) h (fun w15 hle h => ?_) (fun _ _ _ h => kzx_no rfl h)
      have h := h hle
      exact kz_weak [(0, .ref (w_adr E.2.1 12 0)), (2, .int (w_a w 12 0 49 (w_a w 12 0 31 (x1).toNatClampNeg).toNatClampNeg)), (3, .int v4), (4, .int (w_i w7 12 0 162))] ⟨rfl, ⟨rfl, ⟨rfl, ⟨rfl, trivial⟩⟩⟩⟩ rfl h
  · skip
    refine kz_aload_n (M := kt_M363) kX13_callFunction_c4.2.2.2.2.2.2.1 rfl ?_
    refine kz_bi (M := kt_M363) 11 kX13_callFunction_c4.2.2.2.2.2.2.2.1 rfl ?_
    refine kz_cvr (M := kt_M363) (c := 12) (o := 0) (As := [.int 11]) (rest := []) kX13_callFunction_c5.1 wl_X13_839 wMv_408 rfl (.inl rfl) rfl (Nat.le_trans (Nat.le_of_ble_eq_true rfl) hL) (Nat.le_of_ble_eq_true rfl) (Nat.le_of_ble_eq_true rfl) h (fun v18 w17 hle h => ?_) (fun _ _ _ h => kzx_no rfl h)
    have h := h hle
    exact kz_throw (M := kt_M363) (c := 13) (o := 0) kX13_callFunction_c5.2.1 rfl (.inl rfl) h (fun h => kzx_no rfl h)
def zL_X13_bind_p11 (E : zE) (L : Nat) (Q : kx_Rs → wS → Prop) (x3 : Int32) (x4 : Int32) (x5 : Int32) (w : wS) : Prop := kzE E L kt_M360 11 [(0, .ref (w_adr E.2.1 12 0)), (3, .int x3), (4, .int x4), (5, .int x5)] [] w Q
def zb_X13_bind_p158 (E : zE) (L : Nat) (Q : kx_Rs → wS → Prop) (x3 : Int32) (x4 : Int32) (x5 : Int32) (w : wS) : Prop := (kx_inb x4 (w_n w 12 0 32) = true ∧ (kx_inb x5 (w_n w 12 0 32) = true ∧ zL_X13_bind_p11 E L Q x3 (w_a w 12 0 32 (x4).toNatClampNeg) (w_a w 12 0 32 (x5).toNatClampNeg) w))
theorem zt_X13_bind_p158 {E : zE} {L : Nat} {Q : kx_Rs → wS → Prop} {x3 : Int32} {x4 : Int32} {x5 : Int32} {w : wS} (hL : 26 ≤ L) (h : zb_X13_bind_p158 E L Q x3 x4 x5 w) : kzE E L kt_M360 158 [(0, .ref (w_adr E.2.1 12 0)), (3, .int x3), (4, .int x4), (5, .int x5)] [] w Q := by
  unfold zb_X13_bind_p158 at h
  refine kz_aload_n (M := kt_M360) kX13_bind_c10.2.2.2.1 rfl ?_
  refine kz_gfc (M := kt_M360) (x := 4104) (c := 12) (o := 0) kX13_bind_c10.2.2.2.2.1 wf_X13_205 (.inl rfl) ?_
  refine kz_iload (M := kt_M360) kX13_bind_c10.2.2.2.2.2.1 rfl ?_
  refine kz_iald (M := kt_M360) (c := 12) (o := 0) (k := 32) (a := (E.2.1 4104)) kX13_bind_c10.2.2.2.2.2.2.1 ow_12_0_32 oa_12_0_32 ot_0 h (fun h => ?_)
  refine kz_sti (M := kt_M360) [(0, .ref (w_adr E.2.1 12 0)), (3, .int x3), (5, .int x5)] kX13_bind_c10.2.2.2.2.2.2.2.1 (Nat.le_of_ble_eq_true rfl) ⟨⟨rfl, rfl, .inl rfl⟩, ⟨⟨rfl, rfl, .inr rfl⟩, ⟨⟨rfl, rfl, .inl rfl⟩, trivial⟩⟩⟩ rfl ?_
  refine kz_aload_n (M := kt_M360) kX13_bind_c11.1 rfl ?_
  refine kz_gfc (M := kt_M360) (x := 4104) (c := 12) (o := 0) kX13_bind_c11.2.1 wf_X13_205 (.inl rfl) ?_
  refine kz_iload (M := kt_M360) kX13_bind_c11.2.2.1 rfl ?_
  refine kz_iald (M := kt_M360) (c := 12) (o := 0) (k := 32) (a := (E.2.1 4104)) kX13_bind_c11.2.2.2.1 ow_12_0_32 oa_12_0_32 ot_0 h (fun h => ?_)
  refine kz_sti (M := kt_M360) [(0, .ref (w_adr E.2.1 12 0)), (3, .int x3), (4, .int (w_a w 12 0 32 (x4).toNatClampNeg))] kX13_bind_c11.2.2.2.2.1 (Nat.le_of_ble_eq_true rfl) ⟨⟨rfl, rfl, .inl rfl⟩, ⟨⟨rfl, rfl, .inl rfl⟩, ⟨⟨rfl, rfl, .inr rfl⟩, trivial⟩⟩⟩ rfl ?_
  refine kz_goto (M := kt_M360) kX13_bind_c11.2.2.2.2.2.1 (t := 11) rfl ?_
  exact kz_weak [(0, .ref (w_adr E.2.1 12 0)), (3, .int x3), (4, .int (w_a w 12 0 32 (x4).toNatClampNeg)), (5, .int (w_a w 12 0 32 (x5).toNatClampNeg))] ⟨rfl, ⟨rfl, ⟨rfl, ⟨rfl, trivial⟩⟩⟩⟩ rfl h
def zb_X13_bind_p11 (E : zE) (L : Nat) (Q : kx_Rs → wS → Prop) (x3 : Int32) (x4 : Int32) (x5 : Int32) (w : wS) : Prop := (if x5 < 0 then Q (.inl none) w else (kx_inb x4 (w_n w 12 0 31) = true ∧ zw E (L - 22) kt_M367 [.ref (w_adr E.2.1 12 0), .int x3, .int (w_a w 12 0 31 (x4).toNatClampNeg)] w (wk1 (fun v2 w1 => wle w w1 → (kx_inb x4 (w_n w1 12 0 34) = true ∧ (if ((w_a w1 12 0 34 (x4).toNatClampNeg) &&& 4) = 0 then (kx_inb x5 (w_n w1 12 0 28) = true ∧ (if w_a w1 12 0 28 (x5).toNatClampNeg < 0 then (kx_inb x5 (w_n w1 12 0 31) = true ∧ zw E (L - 21) kt_M540 [.ref (w_adr E.2.1 12 0), .int (w_a w1 12 0 31 (x5).toNatClampNeg)] w1 (wk1 (fun v4 w3 => wle w1 w3 → (kx_inb x4 (w_n w3 12 0 31) = true ∧ zw E (L - 21) kt_M410 [.ref (w_adr E.2.1 12 0), .int v4] w3 (wk1 (fun v6 w5 => wle w3 w5 → (kx_inb x5 (w_n w5 12 0 31) = true ∧ zw E (L - 22) kt_M464 [.ref (w_adr E.2.1 12 0), .int (w_a w5 12 0 31 (x5).toNatClampNeg), .int v4] w5 (wk1 (fun v8 w7 => wle w5 w7 → zw E (L - 24) kt_M457 [.ref (w_adr E.2.1 12 0), .int (w_a w3 12 0 31 (x4).toNatClampNeg), .int v2, .int v6, .int v8] w7 (wk0 (fun w9 => wle w7 w9 → zb_X13_bind_p158 E L Q x3 x4 x5 w9) (fun e w => Q (.inr e) w))) (fun e w => Q (.inr e) w)))) (fun e w => Q (.inr e) w)))) (fun e w => Q (.inr e) w))) else zw E (L - 23) kt_M433 [.ref (w_adr E.2.1 12 0), .int x5] w1 (wk1 (fun v12 w11 => wle w1 w11 → zw E (L - 22) kt_M547 [.ref (w_adr E.2.1 12 0), .int v2, .int v12] w11 (wk0 (fun w13 => wle w11 w13 → zb_X13_bind_p158 E L Q x3 x4 x5 w13) (fun e w => Q (.inr e) w))) (fun e w => Q (.inr e) w)))) else (kx_inb x4 (w_n w1 12 0 34) = true ∧ (if ((w_a w1 12 0 34 (x4).toNatClampNeg) &&& 1) = 0 then zw E (L - 25) kt_M404 [.ref (w_adr E.2.1 12 0), .int x5] w1 (wk1 (fun v16 w15 => wle w1 w15 → zw E (L - 22) kt_M547 [.ref (w_adr E.2.1 12 0), .int v2, .int v16] w15 (wk0 (fun w17 => wle w15 w17 → zb_X13_bind_p158 E L Q x3 x4 x5 w17) (fun e w => Q (.inr e) w))) (fun e w => Q (.inr e) w)) else zw E (L - 26) kt_M379 [.ref (w_adr E.2.1 12 0), .int v2, .int x5] w1 (wk0 (fun w19 => wle w1 w19 → zb_X13_bind_p158 E L Q x3 x4 x5 w19) (fun e w => Q (.inr e) w))))))) (fun e w => Q (.inr e) w))))
theorem zt_X13_bind_p11 {E : zE} {L : Nat} {Q : kx_Rs → wS → Prop} {x3 : Int32} {x4 : Int32} {x5 : Int32} {w : wS} (hL : 26 ≤ L) (h : zb_X13_bind_p11 E L Q x3 x4 x5 w) : kzE E L kt_M360 11 [(0, .ref (w_adr E.2.1 12 0)), (3, .int x3), (4, .int x4), (5, .int x5)] [] w Q := by
  unfold zb_X13_bind_p11 at h
  refine kz_iload (M := kt_M360) kX13_bind_c0.2.2.2.2.2.2.2.1 rfl ?_
  refine kz_if_lt (M := kt_M360) kX13_bind_c1.1 (t := 179) rfl h (fun h => ?_) (fun h => ?_)
  · skip
    exact kz_ret (M := kt_M360) kX13_bind_c11.2.2.2.2.2.2.1 rfl h
  · skip
    refine kz_aload_n (M := kt_M360) kX13_bind_c1.2.1 rfl ?_
    refine kz_iload_n (M := kt_M360) kX13_bind_c1.2.2.1 rfl ?_
    refine kz_aload_n (M := kt_M360) kX13_bind_c1.2.2.2.1 rfl ?_
    refine kz_gfc (M := kt_M360) (x := 4103) (c := 12) (o := 0) kX13_bind_c1.2.2.2.2.1 wf_X13_202 (.inl rfl) ?_
    refine kz_iload (M := kt_M360) kX13_bind_c1.2.2.2.2.2.1 rfl ?_
    refine kz_iald (M := kt_M360) (c := 12) (o := 0) (k := 31) (a := (E.2.1 4103)) kX13_bind_c1.2.2.2.2.2.2.1 ow_12_0_31 oa_12_0_31 ot_0 h (fun h => ?_)
    refine kz_cv1 (M := kt_M360) (c := 12) (o := 0) (As := [.int x3, .int (w_a w 12 0 31 (x4).toNatClampNeg)]) (rest := []) kX13_bind_c1.2.2.2.2.2.2.2.1 wl_X13_1248 wMv_367 rfl (.inl rfl) rfl (Nat.le_trans (Nat.le_of_ble_eq_true rfl) hL) (Nat.le_of_ble_eq_true rfl) (Nat.le_of_ble_eq_true rfl) h (fun v2 w1 hle h => ?_) (fun _ _ _ h => kzx_no rfl h)
    have h := h hle
    refine kz_sti (M := kt_M360) [(0, .ref (w_adr E.2.1 12 0)), (3, .int x3), (4, .int x4), (5, .int x5)] kX13_bind_c2.1 (Nat.le_of_ble_eq_true rfl) ⟨⟨rfl, rfl, .inl rfl⟩, ⟨⟨rfl, rfl, .inl rfl⟩, ⟨⟨rfl, rfl, .inl rfl⟩, ⟨⟨rfl, rfl, .inr rfl⟩, trivial⟩⟩⟩⟩ rfl ?_
    refine kz_aload_n (M := kt_M360) kX13_bind_c2.2.1 rfl ?_
    refine kz_gfc (M := kt_M360) (x := 4106) (c := 12) (o := 0) kX13_bind_c2.2.2.1 wf_X13_211 (.inl rfl) ?_
    refine kz_iload (M := kt_M360) kX13_bind_c2.2.2.2.1 rfl ?_
    refine kz_iald (M := kt_M360) (c := 12) (o := 0) (k := 34) (a := (E.2.1 4106)) kX13_bind_c2.2.2.2.2.1 ow_12_0_34 oa_12_0_34 ot_0 h (fun h => ?_)
    refine kz_ic (M := kt_M360) 4 kX13_bind_c2.2.2.2.2.2.1 rfl ?_
    refine kz_iand (M := kt_M360) kX13_bind_c2.2.2.2.2.2.2.1 ?_
    refine kz_if_eq (M := kt_M360) kX13_bind_c2.2.2.2.2.2.2.2.1 (t := 84) rfl h (fun h => ?_) (fun h => ?_)
    · skip
      refine kz_aload_n (M := kt_M360) kX13_bind_c5.2.2.2.2.2.1 rfl ?_
      refine kz_gfc (M := kt_M360) (x := 4100) (c := 12) (o := 0) kX13_bind_c5.2.2.2.2.2.2.1 wf_X13_193 (.inl rfl) ?_
      refine kz_iload (M := kt_M360) kX13_bind_c5.2.2.2.2.2.2.2.1 rfl ?_
      refine kz_iald (M := kt_M360) (c := 12) (o := 0) (k := 28) (a := (E.2.1 4100)) kX13_bind_c6.1 ow_12_0_28 oa_12_0_28 ot_0 h (fun h => ?_)
      refine kz_if_lt (M := kt_M360) kX13_bind_c6.2.1 (t := 113) rfl h (fun h => ?_) (fun h => ?_)
      · skip
        refine kz_aload_n (M := kt_M360) kX13_bind_c7.2.2.2.1 rfl ?_
        refine kz_aload_n (M := kt_M360) kX13_bind_c7.2.2.2.2.1 rfl ?_
        refine kz_gfc (M := kt_M360) (x := 4103) (c := 12) (o := 0) kX13_bind_c7.2.2.2.2.2.1 wf_X13_202 (.inl rfl) ?_
        refine kz_iload (M := kt_M360) kX13_bind_c7.2.2.2.2.2.2.1 rfl ?_
        refine kz_iald (M := kt_M360) (c := 12) (o := 0) (k := 31) (a := (E.2.1 4103)) kX13_bind_c7.2.2.2.2.2.2.2.1 ow_12_0_31 oa_12_0_31 ot_0 h (fun h => ?_)
        refine kz_cv1 (M := kt_M360) (c := 12) (o := 0) (As := [.int (w_a w1 12 0 31 (x5).toNatClampNeg)]) (rest := []) kX13_bind_c8.1 wl_X13_1210 wMv_540 rfl (.inl rfl) rfl (Nat.le_trans (Nat.le_of_ble_eq_true rfl) hL) (Nat.le_of_ble_eq_true rfl) (Nat.le_of_ble_eq_true rfl) h (fun v4 w3 hle h => ?_) (fun _ _ _ h => kzx_no rfl h)
        have h := h hle
        refine kz_sti (M := kt_M360) [(0, .ref (w_adr E.2.1 12 0)), (3, .int x3), (4, .int x4), (5, .int x5), (6, .int v2)] kX13_bind_c8.2.1 (Nat.le_of_ble_eq_true rfl) ⟨⟨rfl, rfl, .inl rfl⟩, ⟨⟨rfl, rfl, .inl rfl⟩, ⟨⟨rfl, rfl, .inl rfl⟩, ⟨⟨rfl, rfl, .inl rfl⟩, ⟨⟨rfl, rfl, .inr rfl⟩, trivial⟩⟩⟩⟩⟩ rfl ?_
        refine kz_aload_n (M := kt_M360) kX13_bind_c8.2.2.1 rfl ?_
        refine kz_aload_n (M := kt_M360) kX13_bind_c8.2.2.2.1 rfl ?_
        refine kz_gfc (M := kt_M360) (x := 4103) (c := 12) (o := 0) kX13_bind_c8.2.2.2.2.1 wf_X13_202 (.inl rfl) ?_
        refine kz_iload (M := kt_M360) kX13_bind_c8.2.2.2.2.2.1 rfl ?_
        refine kz_iald (M := kt_M360) (c := 12) (o := 0) (k := 31) (a := (E.2.1 4103)) kX13_bind_c8.2.2.2.2.2.2.1 ow_12_0_31 oa_12_0_31 ot_0 h (fun h => ?_)
        refine kz_iload (M := kt_M360) kX13_bind_c8.2.2.2.2.2.2.2.1 rfl ?_
        refine kz_aload_n (M := kt_M360) kX13_bind_c9.1 rfl ?_
        refine kz_iload (M := kt_M360) kX13_bind_c9.2.1 rfl ?_
        refine kz_cv1 (M := kt_M360) (c := 12) (o := 0) (As := [.int v4]) (rest := [.int v2, .int (w_a w3 12 0 31 (x4).toNatClampNeg), .ref (w_adr E.2.1 12 0)]) kX13_bind_c9.2.2.1 wl_X13_1177 wMv_410 rfl (.inl rfl) rfl (Nat.le_trans (Nat.le_of_ble_eq_true rfl) hL) (Nat.le_of_ble_eq_true rfl) (Nat.le_of_ble_eq_true rfl) h (fun v6 w5 hle h => ?_) (fun _ _ _ h => kzx_no rfl h)
        have h := h hle
        refine kz_aload_n (M := kt_M360) kX13_bind_c9.2.2.2.1 rfl ?_
        refine kz_aload_n (M := kt_M360) kX13_bind_c9.2.2.2.2.1 rfl ?_
        refine kz_gfc (M := kt_M360) (x := 4103) (c := 12) (o := 0) kX13_bind_c9.2.2.2.2.2.1 wf_X13_202 (.inl rfl) ?_
        refine kz_iload (M := kt_M360) kX13_bind_c9.2.2.2.2.2.2.1 rfl ?_
        refine kz_iald (M := kt_M360) (c := 12) (o := 0) (k := 31) (a := (E.2.1 4103)) kX13_bind_c9.2.2.2.2.2.2.2.1 ow_12_0_31 oa_12_0_31 ot_0 h (fun h => ?_)
        refine kz_iload (M := kt_M360) kX13_bind_c10.1 rfl ?_
        refine kz_cv1 (M := kt_M360) (c := 12) (o := 0) (As := [.int (w_a w5 12 0 31 (x5).toNatClampNeg), .int v4]) (rest := [.int v6, .int v2, .int (w_a w3 12 0 31 (x4).toNatClampNeg), .ref (w_adr E.2.1 12 0)]) kX13_bind_c10.2.1 wl_X13_1254 wMv_464 rfl (.inl rfl) rfl (Nat.le_trans (Nat.le_of_ble_eq_true rfl) hL) (Nat.le_of_ble_eq_true rfl) (Nat.le_of_ble_eq_true rfl) h (fun v8 w7 hle h => ?_) (fun _ _ _ h => kzx_no rfl h)
        have h := h hle
        refine kz_cv0 (M := kt_M360) (c := 12) (o := 0) (As := [.int (w_a w3 12 0 31 (x4).toNatClampNeg), .int v2, .int v6, .int v8]) (rest := []) kX13_bind_c10.2.2.1 wl_X13_1257 wMv_457 rfl (.inl rfl) rfl (Nat.le_trans (Nat.le_of_ble_eq_true rfl) hL) (Nat.le_of_ble_eq_true rfl) (Nat.le_of_ble_eq_true rfl) h (fun w9 hle h => ?_) (fun _ _ _ h => kzx_no rfl h)
        have h := h hle
        exact kz_weak [(0, .ref (w_adr E.2.1 12 0)), (3, .int x3), (4, .int x4), (5, .int x5)] ⟨rfl, ⟨rfl, ⟨rfl, ⟨rfl, trivial⟩⟩⟩⟩ rfl (zt_X13_bind_p158 hL  h)
      · skip
        refine kz_aload_n (M := kt_M360) kX13_bind_c6.2.2.1 rfl ?_
        refine kz_iload (M := kt_M360) kX13_bind_c6.2.2.2.1 rfl ?_
        refine kz_cv1 (M := kt_M360) (c := 12) (o := 0) (As := [.int x5]) (rest := []) kX13_bind_c6.2.2.2.2.1 wl_X13_1219 wMv_433 rfl (.inl rfl) rfl (Nat.le_trans (Nat.le_of_ble_eq_true rfl) hL) (Nat.le_of_ble_eq_true rfl) (Nat.le_of_ble_eq_true rfl) h (fun v12 w11 hle h => ?_) (fun _ _ _ h => kzx_no rfl h)
        have h := h hle
        refine kz_sti (M := kt_M360) [(0, .ref (w_adr E.2.1 12 0)), (3, .int x3), (4, .int x4), (5, .int x5), (6, .int v2)] kX13_bind_c6.2.2.2.2.2.1 (Nat.le_of_ble_eq_true rfl) ⟨⟨rfl, rfl, .inl rfl⟩, ⟨⟨rfl, rfl, .inl rfl⟩, ⟨⟨rfl, rfl, .inl rfl⟩, ⟨⟨rfl, rfl, .inl rfl⟩, ⟨⟨rfl, rfl, .inr rfl⟩, trivial⟩⟩⟩⟩⟩ rfl ?_
        refine kz_aload_n (M := kt_M360) kX13_bind_c6.2.2.2.2.2.2.1 rfl ?_
        refine kz_iload (M := kt_M360) kX13_bind_c6.2.2.2.2.2.2.2.1 rfl ?_
        refine kz_iload (M := kt_M360) kX13_bind_c7.1 rfl ?_
        refine kz_cv0 (M := kt_M360) (c := 12) (o := 0) (As := [.int v2, .int v12]) (rest := []) kX13_bind_c7.2.1 wl_X13_1140 wMv_547 rfl (.inl rfl) rfl (Nat.le_trans (Nat.le_of_ble_eq_true rfl) hL) (Nat.le_of_ble_eq_true rfl) (Nat.le_of_ble_eq_true rfl) h (fun w13 hle h => ?_) (fun _ _ _ h => kzx_no rfl h)
        have h := h hle
        refine kz_goto (M := kt_M360) kX13_bind_c7.2.2.1 (t := 158) rfl ?_
        exact kz_weak [(0, .ref (w_adr E.2.1 12 0)), (3, .int x3), (4, .int x4), (5, .int x5)] ⟨rfl, ⟨rfl, ⟨rfl, ⟨rfl, trivial⟩⟩⟩⟩ rfl (zt_X13_bind_p158 hL  h)
    · skip
      refine kz_aload_n (M := kt_M360) kX13_bind_c3.1 rfl ?_
      refine kz_gfc (M := kt_M360) (x := 4106) (c := 12) (o := 0) kX13_bind_c3.2.1 wf_X13_211 (.inl rfl) ?_
      refine kz_iload (M := kt_M360) kX13_bind_c3.2.2.1 rfl ?_
      refine kz_iald (M := kt_M360) (c := 12) (o := 0) (k := 34) (a := (E.2.1 4106)) kX13_bind_c3.2.2.2.1 ow_12_0_34 oa_12_0_34 ot_0 h (fun h => ?_)
      refine kz_ic (M := kt_M360) 1 kX13_bind_c3.2.2.2.2.1 rfl ?_
      refine kz_iand (M := kt_M360) kX13_bind_c3.2.2.2.2.2.1 ?_
      refine kz_if_eq (M := kt_M360) kX13_bind_c3.2.2.2.2.2.2.1 (t := 65) rfl h (fun h => ?_) (fun h => ?_)
      · skip
        refine kz_aload_n (M := kt_M360) kX13_bind_c4.2.2.2.2.1 rfl ?_
        refine kz_iload (M := kt_M360) kX13_bind_c4.2.2.2.2.2.1 rfl ?_
        refine kz_cv1 (M := kt_M360) (c := 12) (o := 0) (As := [.int x5]) (rest := []) kX13_bind_c4.2.2.2.2.2.2.1 wl_X13_1207 wMv_404 rfl (.inl rfl) rfl (Nat.le_trans (Nat.le_of_ble_eq_true rfl) hL) (Nat.le_of_ble_eq_true rfl) (Nat.le_of_ble_eq_true rfl) h (fun v16 w15 hle h => ?_) (fun _ _ _ h => kzx_no rfl h)
        have h := h hle
        refine kz_sti (M := kt_M360) [(0, .ref (w_adr E.2.1 12 0)), (3, .int x3), (4, .int x4), (5, .int x5), (6, .int v2)] kX13_bind_c4.2.2.2.2.2.2.2.1 (Nat.le_of_ble_eq_true rfl) ⟨⟨rfl, rfl, .inl rfl⟩, ⟨⟨rfl, rfl, .inl rfl⟩, ⟨⟨rfl, rfl, .inl rfl⟩, ⟨⟨rfl, rfl, .inl rfl⟩, ⟨⟨rfl, rfl, .inr rfl⟩, trivial⟩⟩⟩⟩⟩ rfl ?_
        refine kz_aload_n (M := kt_M360) kX13_bind_c5.1 rfl ?_
        refine kz_iload (M := kt_M360) kX13_bind_c5.2.1 rfl ?_
        refine kz_iload (M := kt_M360) kX13_bind_c5.2.2.1 rfl ?_
        refine kz_cv0 (M := kt_M360) (c := 12) (o := 0) (As := [.int v2, .int v16]) (rest := []) kX13_bind_c5.2.2.2.1 wl_X13_1140 wMv_547 rfl (.inl rfl) rfl (Nat.le_trans (Nat.le_of_ble_eq_true rfl) hL) (Nat.le_of_ble_eq_true rfl) (Nat.le_of_ble_eq_true rfl) h (fun w17 hle h => ?_) (fun _ _ _ h => kzx_no rfl h)
        have h := h hle
        refine kz_goto (M := kt_M360) kX13_bind_c5.2.2.2.2.1 (t := 158) rfl ?_
        exact kz_weak [(0, .ref (w_adr E.2.1 12 0)), (3, .int x3), (4, .int x4), (5, .int x5)] ⟨rfl, ⟨rfl, ⟨rfl, ⟨rfl, trivial⟩⟩⟩⟩ rfl (zt_X13_bind_p158 hL  h)
      · skip
        refine kz_aload_n (M := kt_M360) kX13_bind_c3.2.2.2.2.2.2.2.1 rfl ?_
        refine kz_iload (M := kt_M360) kX13_bind_c4.1 rfl ?_
        refine kz_iload (M := kt_M360) kX13_bind_c4.2.1 rfl ?_
        refine kz_cv0 (M := kt_M360) (c := 12) (o := 0) (As := [.int v2, .int x5]) (rest := []) kX13_bind_c4.2.2.1 wl_X13_1251 wMv_379 rfl (.inl rfl) rfl (Nat.le_trans (Nat.le_of_ble_eq_true rfl) hL) (Nat.le_of_ble_eq_true rfl) (Nat.le_of_ble_eq_true rfl) h (fun w19 hle h => ?_) (fun _ _ _ h => kzx_no rfl h)
        have h := h hle
        refine kz_goto (M := kt_M360) kX13_bind_c4.2.2.2.1 (t := 158) rfl ?_
        exact kz_weak [(0, .ref (w_adr E.2.1 12 0)), (3, .int x3), (4, .int x4), (5, .int x5)] ⟨rfl, ⟨rfl, ⟨rfl, ⟨rfl, trivial⟩⟩⟩⟩ rfl (zt_X13_bind_p158 hL  h)
def zb_X13_bind_p0 (E : zE) (L : Nat) (Q : kx_Rs → wS → Prop) (x1 : Int32) (x2 : Int32) (x3 : Int32) (w : wS) : Prop := (kx_inb x2 (w_n w 12 0 28) = true ∧ zL_X13_bind_p11 E L Q x3 (w_a w 12 0 28 (x2).toNatClampNeg) x1 w)
theorem zt_X13_bind_p0 {E : zE} {L : Nat} {Q : kx_Rs → wS → Prop} {x1 : Int32} {x2 : Int32} {x3 : Int32} {w : wS} (hL : 26 ≤ L) (h : zb_X13_bind_p0 E L Q x1 x2 x3 w) : kzE E L kt_M360 0 [(0, .ref (w_adr E.2.1 12 0)), (1, .int x1), (2, .int x2), (3, .int x3)] [] w Q := by
  unfold zb_X13_bind_p0 at h
  refine kz_aload_n (M := kt_M360) kX13_bind_c0.1 rfl ?_
  refine kz_gfc (M := kt_M360) (x := 4100) (c := 12) (o := 0) kX13_bind_c0.2.1 wf_X13_193 (.inl rfl) ?_
  refine kz_iload_n (M := kt_M360) kX13_bind_c0.2.2.1 rfl ?_
  refine kz_iald (M := kt_M360) (c := 12) (o := 0) (k := 28) (a := (E.2.1 4100)) kX13_bind_c0.2.2.2.1 ow_12_0_28 oa_12_0_28 ot_0 h (fun h => ?_)
  refine kz_sti (M := kt_M360) [(0, .ref (w_adr E.2.1 12 0)), (1, .int x1), (3, .int x3)] kX13_bind_c0.2.2.2.2.1 (Nat.le_of_ble_eq_true rfl) ⟨⟨rfl, rfl, .inl rfl⟩, ⟨⟨rfl, rfl, .inl rfl⟩, ⟨⟨rfl, rfl, .inr rfl⟩, trivial⟩⟩⟩ rfl ?_
  refine kz_iload_n (M := kt_M360) kX13_bind_c0.2.2.2.2.2.1 rfl ?_
  refine kz_sti (M := kt_M360) [(0, .ref (w_adr E.2.1 12 0)), (3, .int x3), (4, .int (w_a w 12 0 28 (x2).toNatClampNeg))] kX13_bind_c0.2.2.2.2.2.2.1 (Nat.le_of_ble_eq_true rfl) ⟨⟨rfl, rfl, .inl rfl⟩, ⟨⟨rfl, rfl, .inl rfl⟩, ⟨⟨rfl, rfl, .inr rfl⟩, trivial⟩⟩⟩ rfl ?_
  exact kz_weak [(0, .ref (w_adr E.2.1 12 0)), (3, .int x3), (4, .int (w_a w 12 0 28 (x2).toNatClampNeg)), (5, .int x1)] ⟨rfl, ⟨rfl, ⟨rfl, ⟨rfl, trivial⟩⟩⟩⟩ rfl h
def zb_X13_indexed_p37 (E : zE) (L : Nat) (Q : kx_Rs → wS → Prop) (w : wS) : Prop := zw E (L - 21) kt_M408 [.ref (w_adr E.2.1 12 0), .int 3] w (wkr (fun v2 w1 => wle w w1 → (v2 = some (w_adr E.2.1 13 0) ∧ Q (.inr "MeetingHouseModel$Halt") w1)) (fun e w => Q (.inr e) w))
theorem zt_X13_indexed_p37 {E : zE} {L : Nat} {Q : kx_Rs → wS → Prop} {w : wS} (hL : 25 ≤ L) (h : zb_X13_indexed_p37 E L Q  w) : kzE E L kt_M433 37 [(0, .ref (w_adr E.2.1 12 0))] [] w Q := by
  unfold zb_X13_indexed_p37 at h
  refine kz_aload_n (M := kt_M433) kX13_indexed_c2.2.2.2.2.2.2.2.1 rfl ?_
  refine kz_ic (M := kt_M433) 3 kX13_indexed_c3.1 rfl ?_
  refine kz_cvr (M := kt_M433) (c := 12) (o := 0) (As := [.int 3]) (rest := []) kX13_indexed_c3.2.1 wl_X13_839 wMv_408 rfl (.inl rfl) rfl (Nat.le_trans (Nat.le_of_ble_eq_true rfl) hL) (Nat.le_of_ble_eq_true rfl) (Nat.le_of_ble_eq_true rfl) h (fun v2 w1 hle h => ?_) (fun _ _ _ h => kzx_no rfl h)
  have h := h hle
  exact kz_throw (M := kt_M433) (c := 13) (o := 0) kX13_indexed_c3.2.2.1 rfl (.inl rfl) h (fun h => kzx_no rfl h)
def zb_X13_indexed_p0 (E : zE) (L : Nat) (Q : kx_Rs → wS → Prop) (x1 : Int32) (w : wS) : Prop := (kx_inb x1 (w_n w 12 0 28) = true ∧ zw E (L - 25) kt_M404 [.ref (w_adr E.2.1 12 0), .int (w_a w 12 0 28 (x1).toNatClampNeg)] w (wk1 (fun v2 w1 => wle w w1 → (kx_inb x1 (w_n w1 12 0 31) = true ∧ zw E (L - 21) kt_M540 [.ref (w_adr E.2.1 12 0), .int (w_a w1 12 0 31 (x1).toNatClampNeg)] w1 (wk1 (fun v4 w3 => wle w1 w3 → (if v2 < 0 then zb_X13_indexed_p37 E L Q w3 else zw E (L - 21) kt_M410 [.ref (w_adr E.2.1 12 0), .int (v4 + 1)] w3 (wk1 (fun v6 w5 => wle w3 w5 → (if v2 < v6 then zw E (L - 21) kt_M410 [.ref (w_adr E.2.1 12 0), .int v4] w5 (wk1 (fun v8 w7 => wle w5 w7 → Q (.inl (some (.int (v8 + v2)))) w7) (fun e w => Q (.inr e) w)) else zb_X13_indexed_p37 E L Q w5)) (fun e w => Q (.inr e) w)))) (fun e w => Q (.inr e) w)))) (fun e w => Q (.inr e) w)))
theorem zt_X13_indexed_p0 {E : zE} {L : Nat} {Q : kx_Rs → wS → Prop} {x1 : Int32} {w : wS} (hL : 25 ≤ L) (h : zb_X13_indexed_p0 E L Q x1 w) : kzE E L kt_M433 0 [(0, .ref (w_adr E.2.1 12 0)), (1, .int x1)] [] w Q := by
  unfold zb_X13_indexed_p0 at h
  refine kz_aload_n (M := kt_M433) kX13_indexed_c0.1 rfl ?_
  refine kz_aload_n (M := kt_M433) kX13_indexed_c0.2.1 rfl ?_
  refine kz_gfc (M := kt_M433) (x := 4100) (c := 12) (o := 0) kX13_indexed_c0.2.2.1 wf_X13_193 (.inl rfl) ?_
  refine kz_iload_n (M := kt_M433) kX13_indexed_c0.2.2.2.1 rfl ?_
  refine kz_iald (M := kt_M433) (c := 12) (o := 0) (k := 28) (a := (E.2.1 4100)) kX13_indexed_c0.2.2.2.2.1 ow_12_0_28 oa_12_0_28 ot_0 h (fun h => ?_)
  refine kz_cv1 (M := kt_M433) (c := 12) (o := 0) (As := [.int (w_a w 12 0 28 (x1).toNatClampNeg)]) (rest := []) kX13_indexed_c0.2.2.2.2.2.1 wl_X13_1207 wMv_404 rfl (.inl rfl) rfl (Nat.le_trans (Nat.le_of_ble_eq_true rfl) hL) (Nat.le_of_ble_eq_true rfl) (Nat.le_of_ble_eq_true rfl) h (fun v2 w1 hle h => ?_) (fun _ _ _ h => kzx_no rfl h)
  have h := h hle
  refine kz_sti_n (M := kt_M433) [(0, .ref (w_adr E.2.1 12 0)), (1, .int x1)] kX13_indexed_c0.2.2.2.2.2.2.1 (Nat.le_of_ble_eq_true rfl) ⟨⟨rfl, rfl, .inl rfl⟩, ⟨⟨rfl, rfl, .inr rfl⟩, trivial⟩⟩ rfl ?_
  refine kz_aload_n (M := kt_M433) kX13_indexed_c0.2.2.2.2.2.2.2.1 rfl ?_
  refine kz_aload_n (M := kt_M433) kX13_indexed_c1.1 rfl ?_
  refine kz_gfc (M := kt_M433) (x := 4103) (c := 12) (o := 0) kX13_indexed_c1.2.1 wf_X13_202 (.inl rfl) ?_
  refine kz_iload_n (M := kt_M433) kX13_indexed_c1.2.2.1 rfl ?_
  refine kz_iald (M := kt_M433) (c := 12) (o := 0) (k := 31) (a := (E.2.1 4103)) kX13_indexed_c1.2.2.2.1 ow_12_0_31 oa_12_0_31 ot_0 h (fun h => ?_)
  refine kz_cv1 (M := kt_M433) (c := 12) (o := 0) (As := [.int (w_a w1 12 0 31 (x1).toNatClampNeg)]) (rest := []) kX13_indexed_c1.2.2.2.2.1 wl_X13_1210 wMv_540 rfl (.inl rfl) rfl (Nat.le_trans (Nat.le_of_ble_eq_true rfl) hL) (Nat.le_of_ble_eq_true rfl) (Nat.le_of_ble_eq_true rfl) h (fun v4 w3 hle h => ?_) (fun _ _ _ h => kzx_no rfl h)
  have h := h hle
  refine kz_sti_n (M := kt_M433) [(0, .ref (w_adr E.2.1 12 0)), (2, .int v2)] kX13_indexed_c1.2.2.2.2.2.1 (Nat.le_of_ble_eq_true rfl) ⟨⟨rfl, rfl, .inl rfl⟩, ⟨⟨rfl, rfl, .inr rfl⟩, trivial⟩⟩ rfl ?_
  refine kz_iload_n (M := kt_M433) kX13_indexed_c1.2.2.2.2.2.2.1 rfl ?_
  refine kz_if_lt (M := kt_M433) kX13_indexed_c1.2.2.2.2.2.2.2.1 (t := 37) rfl h (fun h => ?_) (fun h => ?_)
  · skip
    exact kz_weak [(0, .ref (w_adr E.2.1 12 0))] ⟨rfl, trivial⟩ rfl (zt_X13_indexed_p37 hL  h)
  · skip
    refine kz_iload_n (M := kt_M433) kX13_indexed_c2.1 rfl ?_
    refine kz_aload_n (M := kt_M433) kX13_indexed_c2.2.1 rfl ?_
    refine kz_iload_n (M := kt_M433) kX13_indexed_c2.2.2.1 rfl ?_
    refine kz_ic (M := kt_M433) 1 kX13_indexed_c2.2.2.2.1 rfl ?_
    refine kz_iadd (M := kt_M433) kX13_indexed_c2.2.2.2.2.1 ?_
    refine kz_cv1 (M := kt_M433) (c := 12) (o := 0) (As := [.int (v4 + 1)]) (rest := [.int v2]) kX13_indexed_c2.2.2.2.2.2.1 wl_X13_1177 wMv_410 rfl (.inl rfl) rfl (Nat.le_trans (Nat.le_of_ble_eq_true rfl) hL) (Nat.le_of_ble_eq_true rfl) (Nat.le_of_ble_eq_true rfl) h (fun v6 w5 hle h => ?_) (fun _ _ _ h => kzx_no rfl h)
    have h := h hle
    refine kz_icmp_lt (M := kt_M433) kX13_indexed_c2.2.2.2.2.2.2.1 (t := 43) rfl h (fun h => ?_) (fun h => ?_)
    · skip
      refine kz_aload_n (M := kt_M433) kX13_indexed_c3.2.2.2.1 rfl ?_
      refine kz_iload_n (M := kt_M433) kX13_indexed_c3.2.2.2.2.1 rfl ?_
      refine kz_cv1 (M := kt_M433) (c := 12) (o := 0) (As := [.int v4]) (rest := []) kX13_indexed_c3.2.2.2.2.2.1 wl_X13_1177 wMv_410 rfl (.inl rfl) rfl (Nat.le_trans (Nat.le_of_ble_eq_true rfl) hL) (Nat.le_of_ble_eq_true rfl) (Nat.le_of_ble_eq_true rfl) h (fun v8 w7 hle h => ?_) (fun _ _ _ h => kzx_no rfl h)
      have h := h hle
      refine kz_iload_n (M := kt_M433) kX13_indexed_c3.2.2.2.2.2.2.1 rfl ?_
      refine kz_iadd (M := kt_M433) kX13_indexed_c3.2.2.2.2.2.2.2.1 ?_
      exact kz_iret (M := kt_M433) kX13_indexed_c4.1 rfl rfl h
    · skip
      exact kz_weak [(0, .ref (w_adr E.2.1 12 0))] ⟨rfl, trivial⟩ rfl (zt_X13_indexed_p37 hL  h)
def zb_X13_manyAt_p21 (E : zE) (L : Nat) (Q : kx_Rs → wS → Prop) (y0 : Int32) (w : wS) : Prop := Q (.inl (some (.int y0))) w
theorem zt_X13_manyAt_p21 {E : zE} {L : Nat} {Q : kx_Rs → wS → Prop} {y0 : Int32} {w : wS} (hL : 21 ≤ L) (h : zb_X13_manyAt_p21 E L Q y0 w) : kzE E L kt_M464 21 [(0, .ref (w_adr E.2.1 12 0))] [.int y0] w Q := by
  unfold zb_X13_manyAt_p21 at h
  exact kz_iret (M := kt_M464) kX13_manyAt_c1.2.2.2.2.2.1 rfl rfl h
def zb_X13_manyAt_p0 (E : zE) (L : Nat) (Q : kx_Rs → wS → Prop) (x1 : Int32) (x2 : Int32) (w : wS) : Prop := (kx_inb x1 (w_n w 12 0 48) = true ∧ (if ¬ w_a w 12 0 48 (x1).toNatClampNeg = (-1) then zw E (L - 21) kt_M410 [.ref (w_adr E.2.1 12 0), .int (x2 + 1)] w (wk1 (fun v2 w1 => wle w w1 → zb_X13_manyAt_p21 E L Q v2 w1) (fun e w => Q (.inr e) w)) else zb_X13_manyAt_p21 E L Q 1 w))
theorem zt_X13_manyAt_p0 {E : zE} {L : Nat} {Q : kx_Rs → wS → Prop} {x1 : Int32} {x2 : Int32} {w : wS} (hL : 21 ≤ L) (h : zb_X13_manyAt_p0 E L Q x1 x2 w) : kzE E L kt_M464 0 [(0, .ref (w_adr E.2.1 12 0)), (1, .int x1), (2, .int x2)] [] w Q := by
  unfold zb_X13_manyAt_p0 at h
  refine kz_aload_n (M := kt_M464) kX13_manyAt_c0.1 rfl ?_
  refine kz_gfc (M := kt_M464) (x := 4120) (c := 12) (o := 0) kX13_manyAt_c0.2.1 wf_X13_229 (.inl rfl) ?_
  refine kz_iload_n (M := kt_M464) kX13_manyAt_c0.2.2.1 rfl ?_
  refine kz_iald (M := kt_M464) (c := 12) (o := 0) (k := 48) (a := (E.2.1 4120)) kX13_manyAt_c0.2.2.2.1 ow_12_0_48 oa_12_0_48 ot_0 h (fun h => ?_)
  refine kz_ic (M := kt_M464) (-1) kX13_manyAt_c0.2.2.2.2.1 rfl ?_
  refine kz_icmp_ne (M := kt_M464) kX13_manyAt_c0.2.2.2.2.2.1 (t := 14) rfl h (fun h => ?_) (fun h => ?_)
  · skip
    refine kz_aload_n (M := kt_M464) kX13_manyAt_c1.1 rfl ?_
    refine kz_iload_n (M := kt_M464) kX13_manyAt_c1.2.1 rfl ?_
    refine kz_ic (M := kt_M464) 1 kX13_manyAt_c1.2.2.1 rfl ?_
    refine kz_iadd (M := kt_M464) kX13_manyAt_c1.2.2.2.1 ?_
    refine kz_cv1 (M := kt_M464) (c := 12) (o := 0) (As := [.int (x2 + 1)]) (rest := []) kX13_manyAt_c1.2.2.2.2.1 wl_X13_1177 wMv_410 rfl (.inl rfl) rfl (Nat.le_trans (Nat.le_of_ble_eq_true rfl) hL) (Nat.le_of_ble_eq_true rfl) (Nat.le_of_ble_eq_true rfl) h (fun v2 w1 hle h => ?_) (fun _ _ _ h => kzx_no rfl h)
    have h := h hle
    exact kz_weak [(0, .ref (w_adr E.2.1 12 0))] ⟨rfl, trivial⟩ rfl (zt_X13_manyAt_p21 hL  h)
  · skip
    refine kz_ic (M := kt_M464) 1 kX13_manyAt_c0.2.2.2.2.2.2.1 rfl ?_
    refine kz_goto (M := kt_M464) kX13_manyAt_c0.2.2.2.2.2.2.2.1 (t := 21) rfl ?_
    exact kz_weak [(0, .ref (w_adr E.2.1 12 0))] ⟨rfl, trivial⟩ rfl (zt_X13_manyAt_p21 hL  h)
def zb_X13_counted_p0 (E : zE) (L : Nat) (Q : kx_Rs → wS → Prop) (w : wS) : Prop := (if ((w_i w 12 0 133) + 1) ≤ 100 then Q (.inl none) (ws_i w 12 0 133 ((w_i w 12 0 133) + 1)) else zw E (L - 21) kt_M408 [.ref (w_adr E.2.1 12 0), .int 11] (ws_i w 12 0 133 ((w_i w 12 0 133) + 1)) (wkr (fun v2 w1 => wle (ws_i w 12 0 133 ((w_i w 12 0 133) + 1)) w1 → (v2 = some (w_adr E.2.1 13 0) ∧ Q (.inr "MeetingHouseModel$Halt") w1)) (fun e w => Q (.inr e) w)))
theorem zt_X13_counted_p0 {E : zE} {L : Nat} {Q : kx_Rs → wS → Prop} {w : wS} (hL : 21 ≤ L) (h : zb_X13_counted_p0 E L Q  w) : kzE E L kt_M381 0 [(0, .ref (w_adr E.2.1 12 0))] [] w Q := by
  unfold zb_X13_counted_p0 at h
  refine kz_aload_n (M := kt_M381) kX13_counted_c0.1 rfl ?_
  refine kz_dup (M := kt_M381) kX13_counted_c0.2.1 rfl ?_
  refine kz_gfi (M := kt_M381) (c := 12) (o := 0) kX13_counted_c0.2.2.1 wf_X13_1260 (.inl rfl) ?_
  refine kz_ic (M := kt_M381) 1 kX13_counted_c0.2.2.2.1 rfl ?_
  refine kz_iadd (M := kt_M381) kX13_counted_c0.2.2.2.2.1 ?_
  refine kz_pfi (M := kt_M381) (c := 12) (o := 0) kX13_counted_c0.2.2.2.2.2.1 wq_X13_1260 (.inl rfl) ?_
  refine kz_aload_n (M := kt_M381) kX13_counted_c0.2.2.2.2.2.2.1 rfl ?_
  refine kz_gfiR (M := kt_M381) (c := 12) (o := 0) ((w_i w 12 0 133) + 1) kX13_counted_c0.2.2.2.2.2.2.2.1 wf_X13_1260 (.inl rfl) rd_i_e ?_
  refine kz_bi (M := kt_M381) 100 kX13_counted_c1.1 rfl ?_
  refine kz_icmp_le (M := kt_M381) kX13_counted_c1.2.1 (t := 26) rfl h (fun h => ?_) (fun h => ?_)
  · skip
    exact kz_ret (M := kt_M381) kX13_counted_c1.2.2.2.2.2.2.1 rfl h
  · skip
    refine kz_aload_n (M := kt_M381) kX13_counted_c1.2.2.1 rfl ?_
    refine kz_bi (M := kt_M381) 11 kX13_counted_c1.2.2.2.1 rfl ?_
    refine kz_cvr (M := kt_M381) (c := 12) (o := 0) (As := [.int 11]) (rest := []) kX13_counted_c1.2.2.2.2.1 wl_X13_839 wMv_408 rfl (.inl rfl) rfl (Nat.le_trans (Nat.le_of_ble_eq_true rfl) hL) (Nat.le_of_ble_eq_true rfl) (Nat.le_of_ble_eq_true rfl) h (fun v2 w1 hle h => ?_) (fun _ _ _ h => kzx_no rfl h)
    have h := h hle
    exact kz_throw (M := kt_M381) (c := 13) (o := 0) kX13_counted_c1.2.2.2.2.2.1 rfl (.inl rfl) h (fun h => kzx_no rfl h)
def zL_X13_act_p284 (E : zE) (L : Nat) (Q : kx_Rs → wS → Prop) (x2 : Int32) (x3 : Int32) (w : wS) : Prop := kzE E L kt_M340 284 [(0, .ref (w_adr E.2.1 12 0)), (2, .int x2), (3, .int x3)] [] w Q
def zL_X13_act_p158 (E : zE) (L : Nat) (Q : kx_Rs → wS → Prop) (x1 : Int32) (x2 : Int32) (x3 : Int32) (w : wS) : Prop := kzE E L kt_M340 158 [(0, .ref (w_adr E.2.1 12 0)), (1, .int x1), (2, .int x2), (3, .int x3)] [] w Q
def zb_X13_act_p378 (E : zE) (L : Nat) (Q : kx_Rs → wS → Prop) (w : wS) : Prop := Q (.inl none) w
theorem zt_X13_act_p378 {E : zE} {L : Nat} {Q : kx_Rs → wS → Prop} {w : wS} (hL : 29 ≤ L) (h : zb_X13_act_p378 E L Q  w) : kzE E L kt_M340 378 [(0, .ref (w_adr E.2.1 12 0))] [] w Q := by
  unfold zb_X13_act_p378 at h
  exact kz_ret (M := kt_M340) kX13_act_c22.2.2.2.2.2.1 rfl h
def zb_X13_act_p316 (E : zE) (L : Nat) (Q : kx_Rs → wS → Prop) (x3 : Int32) (w : wS) : Prop := (if 0 ≤ x3 then zw E (L - 21) kt_M511 [.ref (w_adr E.2.1 12 0)] w (wk0 (fun w1 => wle w w1 → (kx_inb x3 (w_n w1 12 0 29) = true ∧ zw E (L - 25) kt_M518 [.ref (w_adr E.2.1 12 0), .int 0, .int (w_a w1 12 0 29 (x3).toNatClampNeg), .int 0, .int 0] w1 (wk0 (fun w3 => wle w1 w3 → Q (.inl none) w3) (fun e w => Q (.inr e) w)))) (fun e w => Q (.inr e) w)) else zw E (L - 21) kt_M408 [.ref (w_adr E.2.1 12 0), .int 5] w (wkr (fun v6 w5 => wle w w5 → (v6 = some (w_adr E.2.1 13 0) ∧ Q (.inr "MeetingHouseModel$Halt") w5)) (fun e w => Q (.inr e) w)))
theorem zt_X13_act_p316 {E : zE} {L : Nat} {Q : kx_Rs → wS → Prop} {x3 : Int32} {w : wS} (hL : 29 ≤ L) (h : zb_X13_act_p316 E L Q x3 w) : kzE E L kt_M340 316 [(0, .ref (w_adr E.2.1 12 0)), (3, .int x3)] [] w Q := by
  unfold zb_X13_act_p316 at h
  refine kz_iload_n (M := kt_M340) kX13_act_c17.2.2.2.2.2.2.2.1 rfl ?_
  refine kz_if_ge (M := kt_M340) kX13_act_c18.1 (t := 326) rfl h (fun h => ?_) (fun h => ?_)
  · skip
    refine kz_aload_n (M := kt_M340) kX13_act_c18.2.2.2.2.2.1 rfl ?_
    refine kz_cv0 (M := kt_M340) (c := 12) (o := 0) (As := []) (rest := []) kX13_act_c18.2.2.2.2.2.2.1 wl_X13_1290 wMv_511 rfl (.inl rfl) rfl (Nat.le_trans (Nat.le_of_ble_eq_true rfl) hL) (Nat.le_of_ble_eq_true rfl) (Nat.le_of_ble_eq_true rfl) h (fun w1 hle h => ?_) (fun _ _ _ h => kzx_no rfl h)
    have h := h hle
    refine kz_aload_n (M := kt_M340) kX13_act_c18.2.2.2.2.2.2.2.1 rfl ?_
    refine kz_ic (M := kt_M340) 0 kX13_act_c19.1 rfl ?_
    refine kz_aload_n (M := kt_M340) kX13_act_c19.2.1 rfl ?_
    refine kz_gfc (M := kt_M340) (x := 4101) (c := 12) (o := 0) kX13_act_c19.2.2.1 wf_X13_196 (.inl rfl) ?_
    refine kz_iload_n (M := kt_M340) kX13_act_c19.2.2.2.1 rfl ?_
    refine kz_iald (M := kt_M340) (c := 12) (o := 0) (k := 29) (a := (E.2.1 4101)) kX13_act_c19.2.2.2.2.1 ow_12_0_29 oa_12_0_29 ot_0 h (fun h => ?_)
    refine kz_ic (M := kt_M340) 0 kX13_act_c19.2.2.2.2.2.1 rfl ?_
    refine kz_ic (M := kt_M340) 0 kX13_act_c19.2.2.2.2.2.2.1 rfl ?_
    refine kz_cv0 (M := kt_M340) (c := 12) (o := 0) (As := [.int 0, .int (w_a w1 12 0 29 (x3).toNatClampNeg), .int 0, .int 0]) (rest := []) kX13_act_c19.2.2.2.2.2.2.2.1 wl_X13_1278 wMv_518 rfl (.inl rfl) rfl (Nat.le_trans (Nat.le_of_ble_eq_true rfl) hL) (Nat.le_of_ble_eq_true rfl) (Nat.le_of_ble_eq_true rfl) h (fun w3 hle h => ?_) (fun _ _ _ h => kzx_no rfl h)
    have h := h hle
    exact kz_ret (M := kt_M340) kX13_act_c20.1 rfl h
  · skip
    refine kz_aload_n (M := kt_M340) kX13_act_c18.2.1 rfl ?_
    refine kz_ic (M := kt_M340) 5 kX13_act_c18.2.2.1 rfl ?_
    refine kz_cvr (M := kt_M340) (c := 12) (o := 0) (As := [.int 5]) (rest := []) kX13_act_c18.2.2.2.1 wl_X13_839 wMv_408 rfl (.inl rfl) rfl (Nat.le_trans (Nat.le_of_ble_eq_true rfl) hL) (Nat.le_of_ble_eq_true rfl) (Nat.le_of_ble_eq_true rfl) h (fun v6 w5 hle h => ?_) (fun _ _ _ h => kzx_no rfl h)
    have h := h hle
    exact kz_throw (M := kt_M340) (c := 13) (o := 0) kX13_act_c18.2.2.2.2.1 rfl (.inl rfl) h (fun h => kzx_no rfl h)
def zb_X13_act_p284 (E : zE) (L : Nat) (Q : kx_Rs → wS → Prop) (x2 : Int32) (x3 : Int32) (w : wS) : Prop := (if x3 < 0 then zb_X13_act_p316 E L Q x3 w else (kx_inb x3 (w_n w 12 0 28) = true ∧ (if w_a w 12 0 28 (x3).toNatClampNeg < 0 then zb_X13_act_p316 E L Q x3 w else zw E (L - 23) kt_M426 [.ref (w_adr E.2.1 12 0), .int x3, .int x2] w (wk1 (fun v2 w1 => wle w w1 → (if ¬ v2 = 0 then zb_X13_act_p316 E L Q x3 w1 else (kx_inb x3 (w_n w1 12 0 32) = true ∧ zL_X13_act_p284 E L Q x2 (w_a w1 12 0 32 (x3).toNatClampNeg) w1))) (fun e w => Q (.inr e) w)))))
theorem zt_X13_act_p284 {E : zE} {L : Nat} {Q : kx_Rs → wS → Prop} {x2 : Int32} {x3 : Int32} {w : wS} (hL : 29 ≤ L) (h : zb_X13_act_p284 E L Q x2 x3 w) : kzE E L kt_M340 284 [(0, .ref (w_adr E.2.1 12 0)), (2, .int x2), (3, .int x3)] [] w Q := by
  unfold zb_X13_act_p284 at h
  refine kz_iload_n (M := kt_M340) kX13_act_c15.2.2.2.2.2.1 rfl ?_
  refine kz_if_lt (M := kt_M340) kX13_act_c15.2.2.2.2.2.2.1 (t := 316) rfl h (fun h => ?_) (fun h => ?_)
  · skip
    exact kz_weak [(0, .ref (w_adr E.2.1 12 0)), (3, .int x3)] ⟨rfl, ⟨rfl, trivial⟩⟩ rfl (zt_X13_act_p316 hL  h)
  · skip
    refine kz_aload_n (M := kt_M340) kX13_act_c15.2.2.2.2.2.2.2.1 rfl ?_
    refine kz_gfc (M := kt_M340) (x := 4100) (c := 12) (o := 0) kX13_act_c16.1 wf_X13_193 (.inl rfl) ?_
    refine kz_iload_n (M := kt_M340) kX13_act_c16.2.1 rfl ?_
    refine kz_iald (M := kt_M340) (c := 12) (o := 0) (k := 28) (a := (E.2.1 4100)) kX13_act_c16.2.2.1 ow_12_0_28 oa_12_0_28 ot_0 h (fun h => ?_)
    refine kz_if_lt (M := kt_M340) kX13_act_c16.2.2.2.1 (t := 316) rfl h (fun h => ?_) (fun h => ?_)
    · skip
      exact kz_weak [(0, .ref (w_adr E.2.1 12 0)), (3, .int x3)] ⟨rfl, ⟨rfl, trivial⟩⟩ rfl (zt_X13_act_p316 hL  h)
    · skip
      refine kz_aload_n (M := kt_M340) kX13_act_c16.2.2.2.2.1 rfl ?_
      refine kz_iload_n (M := kt_M340) kX13_act_c16.2.2.2.2.2.1 rfl ?_
      refine kz_iload_n (M := kt_M340) kX13_act_c16.2.2.2.2.2.2.1 rfl ?_
      refine kz_cv1 (M := kt_M340) (c := 12) (o := 0) (As := [.int x3, .int x2]) (rest := []) kX13_act_c16.2.2.2.2.2.2.2.1 wl_X13_1346 wMv_426 rfl (.inl rfl) rfl (Nat.le_trans (Nat.le_of_ble_eq_true rfl) hL) (Nat.le_of_ble_eq_true rfl) (Nat.le_of_ble_eq_true rfl) h (fun v2 w1 hle h => ?_) (fun _ _ _ h => kzx_no rfl h)
      have h := h hle
      refine kz_if_ne (M := kt_M340) kX13_act_c17.1 (t := 316) rfl h (fun h => ?_) (fun h => ?_)
      · skip
        exact kz_weak [(0, .ref (w_adr E.2.1 12 0)), (3, .int x3)] ⟨rfl, ⟨rfl, trivial⟩⟩ rfl (zt_X13_act_p316 hL  h)
      · skip
        refine kz_aload_n (M := kt_M340) kX13_act_c17.2.1 rfl ?_
        refine kz_gfc (M := kt_M340) (x := 4104) (c := 12) (o := 0) kX13_act_c17.2.2.1 wf_X13_205 (.inl rfl) ?_
        refine kz_iload_n (M := kt_M340) kX13_act_c17.2.2.2.1 rfl ?_
        refine kz_iald (M := kt_M340) (c := 12) (o := 0) (k := 32) (a := (E.2.1 4104)) kX13_act_c17.2.2.2.2.1 ow_12_0_32 oa_12_0_32 ot_0 h (fun h => ?_)
        refine kz_sti_n (M := kt_M340) [(0, .ref (w_adr E.2.1 12 0)), (2, .int x2)] kX13_act_c17.2.2.2.2.2.1 (Nat.le_of_ble_eq_true rfl) ⟨⟨rfl, rfl, .inl rfl⟩, ⟨⟨rfl, rfl, .inr rfl⟩, trivial⟩⟩ rfl ?_
        refine kz_goto (M := kt_M340) kX13_act_c17.2.2.2.2.2.2.1 (t := 284) rfl ?_
        exact kz_weak [(0, .ref (w_adr E.2.1 12 0)), (2, .int x2), (3, .int (w_a w1 12 0 32 (x3).toNatClampNeg))] ⟨rfl, ⟨rfl, ⟨rfl, trivial⟩⟩⟩ rfl h
def zb_X13_act_p238 (E : zE) (L : Nat) (Q : kx_Rs → wS → Prop) (x2 : Int32) (w : wS) : Prop := (if 0 ≤ x2 then zw E (L - 21) kt_M511 [.ref (w_adr E.2.1 12 0)] w (wk0 (fun w1 => wle w w1 → (kx_inb x2 (w_n w1 12 0 29) = true ∧ zw E (L - 25) kt_M518 [.ref (w_adr E.2.1 12 0), .int 0, .int (w_a w1 12 0 29 (x2).toNatClampNeg), .int 0, .int 0] w1 (wk0 (fun w3 => wle w1 w3 → Q (.inl none) w3) (fun e w => Q (.inr e) w)))) (fun e w => Q (.inr e) w)) else zw E (L - 21) kt_M408 [.ref (w_adr E.2.1 12 0), .int 4] w (wkr (fun v6 w5 => wle w w5 → (v6 = some (w_adr E.2.1 13 0) ∧ Q (.inr "MeetingHouseModel$Halt") w5)) (fun e w => Q (.inr e) w)))
theorem zt_X13_act_p238 {E : zE} {L : Nat} {Q : kx_Rs → wS → Prop} {x2 : Int32} {w : wS} (hL : 29 ≤ L) (h : zb_X13_act_p238 E L Q x2 w) : kzE E L kt_M340 238 [(0, .ref (w_adr E.2.1 12 0)), (2, .int x2)] [] w Q := by
  unfold zb_X13_act_p238 at h
  refine kz_iload_n (M := kt_M340) kX13_act_c11.2.2.2.2.2.2.2.1 rfl ?_
  refine kz_if_ge (M := kt_M340) kX13_act_c12.1 (t := 248) rfl h (fun h => ?_) (fun h => ?_)
  · skip
    refine kz_aload_n (M := kt_M340) kX13_act_c12.2.2.2.2.2.1 rfl ?_
    refine kz_cv0 (M := kt_M340) (c := 12) (o := 0) (As := []) (rest := []) kX13_act_c12.2.2.2.2.2.2.1 wl_X13_1290 wMv_511 rfl (.inl rfl) rfl (Nat.le_trans (Nat.le_of_ble_eq_true rfl) hL) (Nat.le_of_ble_eq_true rfl) (Nat.le_of_ble_eq_true rfl) h (fun w1 hle h => ?_) (fun _ _ _ h => kzx_no rfl h)
    have h := h hle
    refine kz_aload_n (M := kt_M340) kX13_act_c12.2.2.2.2.2.2.2.1 rfl ?_
    refine kz_ic (M := kt_M340) 0 kX13_act_c13.1 rfl ?_
    refine kz_aload_n (M := kt_M340) kX13_act_c13.2.1 rfl ?_
    refine kz_gfc (M := kt_M340) (x := 4101) (c := 12) (o := 0) kX13_act_c13.2.2.1 wf_X13_196 (.inl rfl) ?_
    refine kz_iload_n (M := kt_M340) kX13_act_c13.2.2.2.1 rfl ?_
    refine kz_iald (M := kt_M340) (c := 12) (o := 0) (k := 29) (a := (E.2.1 4101)) kX13_act_c13.2.2.2.2.1 ow_12_0_29 oa_12_0_29 ot_0 h (fun h => ?_)
    refine kz_ic (M := kt_M340) 0 kX13_act_c13.2.2.2.2.2.1 rfl ?_
    refine kz_ic (M := kt_M340) 0 kX13_act_c13.2.2.2.2.2.2.1 rfl ?_
    refine kz_cv0 (M := kt_M340) (c := 12) (o := 0) (As := [.int 0, .int (w_a w1 12 0 29 (x2).toNatClampNeg), .int 0, .int 0]) (rest := []) kX13_act_c13.2.2.2.2.2.2.2.1 wl_X13_1278 wMv_518 rfl (.inl rfl) rfl (Nat.le_trans (Nat.le_of_ble_eq_true rfl) hL) (Nat.le_of_ble_eq_true rfl) (Nat.le_of_ble_eq_true rfl) h (fun w3 hle h => ?_) (fun _ _ _ h => kzx_no rfl h)
    have h := h hle
    exact kz_ret (M := kt_M340) kX13_act_c14.1 rfl h
  · skip
    refine kz_aload_n (M := kt_M340) kX13_act_c12.2.1 rfl ?_
    refine kz_ic (M := kt_M340) 4 kX13_act_c12.2.2.1 rfl ?_
    refine kz_cvr (M := kt_M340) (c := 12) (o := 0) (As := [.int 4]) (rest := []) kX13_act_c12.2.2.2.1 wl_X13_839 wMv_408 rfl (.inl rfl) rfl (Nat.le_trans (Nat.le_of_ble_eq_true rfl) hL) (Nat.le_of_ble_eq_true rfl) (Nat.le_of_ble_eq_true rfl) h (fun v6 w5 hle h => ?_) (fun _ _ _ h => kzx_no rfl h)
    have h := h hle
    exact kz_throw (M := kt_M340) (c := 13) (o := 0) kX13_act_c12.2.2.2.2.1 rfl (.inl rfl) h (fun h => kzx_no rfl h)
def zb_X13_act_p217 (E : zE) (L : Nat) (Q : kx_Rs → wS → Prop) (x1 : Int32) (x2 : Int32) (w : wS) : Prop := (if ¬ w_i w 12 0 134 = 0 then zb_X13_act_p238 E L Q x2 w else (if 0 ≤ x2 then zb_X13_act_p238 E L Q x2 w else (kx_inb x1 (w_n w 12 0 27) = true ∧ zb_X13_act_p238 E L Q x2 (ws_i w 12 0 164 (w_a w 12 0 27 (x1).toNatClampNeg)))))
theorem zt_X13_act_p217 {E : zE} {L : Nat} {Q : kx_Rs → wS → Prop} {x1 : Int32} {x2 : Int32} {w : wS} (hL : 29 ≤ L) (h : zb_X13_act_p217 E L Q x1 x2 w) : kzE E L kt_M340 217 [(0, .ref (w_adr E.2.1 12 0)), (1, .int x1), (2, .int x2)] [] w Q := by
  unfold zb_X13_act_p217 at h
  refine kz_aload_n (M := kt_M340) kX13_act_c10.2.2.2.2.1 rfl ?_
  refine kz_gfi (M := kt_M340) (c := 12) (o := 0) kX13_act_c10.2.2.2.2.2.1 wf_X13_1272 (.inl rfl) ?_
  refine kz_if_ne (M := kt_M340) kX13_act_c10.2.2.2.2.2.2.1 (t := 238) rfl h (fun h => ?_) (fun h => ?_)
  · skip
    exact kz_weak [(0, .ref (w_adr E.2.1 12 0)), (2, .int x2)] ⟨rfl, ⟨rfl, trivial⟩⟩ rfl (zt_X13_act_p238 hL  h)
  · skip
    refine kz_iload_n (M := kt_M340) kX13_act_c10.2.2.2.2.2.2.2.1 rfl ?_
    refine kz_if_ge (M := kt_M340) kX13_act_c11.1 (t := 238) rfl h (fun h => ?_) (fun h => ?_)
    · skip
      exact kz_weak [(0, .ref (w_adr E.2.1 12 0)), (2, .int x2)] ⟨rfl, ⟨rfl, trivial⟩⟩ rfl (zt_X13_act_p238 hL  h)
    · skip
      refine kz_aload_n (M := kt_M340) kX13_act_c11.2.1 rfl ?_
      refine kz_aload_n (M := kt_M340) kX13_act_c11.2.2.1 rfl ?_
      refine kz_gfc (M := kt_M340) (x := 4099) (c := 12) (o := 0) kX13_act_c11.2.2.2.1 wf_X13_190 (.inl rfl) ?_
      refine kz_iload_n (M := kt_M340) kX13_act_c11.2.2.2.2.1 rfl ?_
      refine kz_iald (M := kt_M340) (c := 12) (o := 0) (k := 27) (a := (E.2.1 4099)) kX13_act_c11.2.2.2.2.2.1 ow_12_0_27 oa_12_0_27 ot_0 h (fun h => ?_)
      refine kz_pfi (M := kt_M340) (c := 12) (o := 0) kX13_act_c11.2.2.2.2.2.2.1 wq_X13_1302 (.inl rfl) ?_
      exact kz_weak [(0, .ref (w_adr E.2.1 12 0)), (2, .int x2)] ⟨rfl, ⟨rfl, trivial⟩⟩ rfl (zt_X13_act_p238 hL  h)
def zb_X13_act_p202 (E : zE) (L : Nat) (Q : kx_Rs → wS → Prop) (x1 : Int32) (x2 : Int32) (y0 : Int32) (w : wS) : Prop := (if ¬ y0 = 0 then zL_X13_act_p158 E L Q x1 x2 y0 w else (kx_inb x2 (w_n w 12 0 32) = true ∧ zL_X13_act_p158 E L Q x1 (w_a w 12 0 32 (x2).toNatClampNeg) y0 w))
theorem zt_X13_act_p202 {E : zE} {L : Nat} {Q : kx_Rs → wS → Prop} {x1 : Int32} {x2 : Int32} {y0 : Int32} {w : wS} (hL : 29 ≤ L) (h : zb_X13_act_p202 E L Q x1 x2 y0 w) : kzE E L kt_M340 202 [(0, .ref (w_adr E.2.1 12 0)), (1, .int x1), (2, .int x2)] [.int y0] w Q := by
  unfold zb_X13_act_p202 at h
  refine kz_sti_n (M := kt_M340) [(0, .ref (w_adr E.2.1 12 0)), (1, .int x1), (2, .int x2)] kX13_act_c9.2.2.2.1 (Nat.le_of_ble_eq_true rfl) ⟨⟨rfl, rfl, .inl rfl⟩, ⟨⟨rfl, rfl, .inl rfl⟩, ⟨⟨rfl, rfl, .inr rfl⟩, trivial⟩⟩⟩ rfl ?_
  refine kz_iload_n (M := kt_M340) kX13_act_c9.2.2.2.2.1 rfl ?_
  refine kz_if_ne (M := kt_M340) kX13_act_c9.2.2.2.2.2.1 (t := 158) rfl h (fun h => ?_) (fun h => ?_)
  · skip
    exact kz_weak [(0, .ref (w_adr E.2.1 12 0)), (1, .int x1), (2, .int x2), (3, .int y0)] ⟨rfl, ⟨rfl, ⟨rfl, ⟨rfl, trivial⟩⟩⟩⟩ rfl h
  · skip
    refine kz_aload_n (M := kt_M340) kX13_act_c9.2.2.2.2.2.2.1 rfl ?_
    refine kz_gfc (M := kt_M340) (x := 4104) (c := 12) (o := 0) kX13_act_c9.2.2.2.2.2.2.2.1 wf_X13_205 (.inl rfl) ?_
    refine kz_iload_n (M := kt_M340) kX13_act_c10.1 rfl ?_
    refine kz_iald (M := kt_M340) (c := 12) (o := 0) (k := 32) (a := (E.2.1 4104)) kX13_act_c10.2.1 ow_12_0_32 oa_12_0_32 ot_0 h (fun h => ?_)
    refine kz_sti_n (M := kt_M340) [(0, .ref (w_adr E.2.1 12 0)), (1, .int x1), (3, .int y0)] kX13_act_c10.2.2.1 (Nat.le_of_ble_eq_true rfl) ⟨⟨rfl, rfl, .inl rfl⟩, ⟨⟨rfl, rfl, .inr rfl⟩, ⟨⟨rfl, rfl, .inl rfl⟩, trivial⟩⟩⟩ rfl ?_
    refine kz_goto (M := kt_M340) kX13_act_c10.2.2.2.1 (t := 158) rfl ?_
    exact kz_weak [(0, .ref (w_adr E.2.1 12 0)), (1, .int x1), (2, .int (w_a w 12 0 32 (x2).toNatClampNeg)), (3, .int y0)] ⟨rfl, ⟨rfl, ⟨rfl, ⟨rfl, trivial⟩⟩⟩⟩ rfl h
def zb_X13_act_p183 (E : zE) (L : Nat) (Q : kx_Rs → wS → Prop) (x1 : Int32) (x2 : Int32) (w : wS) : Prop := (kx_inb x2 (w_n w 12 0 28) = true ∧ zw E (L - 25) kt_M404 [.ref (w_adr E.2.1 12 0), .int (w_a w 12 0 28 (x2).toNatClampNeg)] w (wk1 (fun v2 w1 => wle w w1 → (if ¬ v2 = 1 then zb_X13_act_p202 E L Q x1 x2 0 w1 else zb_X13_act_p202 E L Q x1 x2 1 w1)) (fun e w => Q (.inr e) w)))
theorem zt_X13_act_p183 {E : zE} {L : Nat} {Q : kx_Rs → wS → Prop} {x1 : Int32} {x2 : Int32} {w : wS} (hL : 29 ≤ L) (h : zb_X13_act_p183 E L Q x1 x2 w) : kzE E L kt_M340 183 [(0, .ref (w_adr E.2.1 12 0)), (1, .int x1), (2, .int x2)] [] w Q := by
  unfold zb_X13_act_p183 at h
  refine kz_aload_n (M := kt_M340) kX13_act_c8.1 rfl ?_
  refine kz_aload_n (M := kt_M340) kX13_act_c8.2.1 rfl ?_
  refine kz_gfc (M := kt_M340) (x := 4100) (c := 12) (o := 0) kX13_act_c8.2.2.1 wf_X13_193 (.inl rfl) ?_
  refine kz_iload_n (M := kt_M340) kX13_act_c8.2.2.2.1 rfl ?_
  refine kz_iald (M := kt_M340) (c := 12) (o := 0) (k := 28) (a := (E.2.1 4100)) kX13_act_c8.2.2.2.2.1 ow_12_0_28 oa_12_0_28 ot_0 h (fun h => ?_)
  refine kz_cv1 (M := kt_M340) (c := 12) (o := 0) (As := [.int (w_a w 12 0 28 (x2).toNatClampNeg)]) (rest := []) kX13_act_c8.2.2.2.2.2.1 wl_X13_1207 wMv_404 rfl (.inl rfl) rfl (Nat.le_trans (Nat.le_of_ble_eq_true rfl) hL) (Nat.le_of_ble_eq_true rfl) (Nat.le_of_ble_eq_true rfl) h (fun v2 w1 hle h => ?_) (fun _ _ _ h => kzx_no rfl h)
  have h := h hle
  refine kz_ic (M := kt_M340) 1 kX13_act_c8.2.2.2.2.2.2.1 rfl ?_
  refine kz_icmp_ne (M := kt_M340) kX13_act_c8.2.2.2.2.2.2.2.1 (t := 201) rfl h (fun h => ?_) (fun h => ?_)
  · skip
    refine kz_ic (M := kt_M340) 0 kX13_act_c9.2.2.1 rfl ?_
    exact kz_weak [(0, .ref (w_adr E.2.1 12 0)), (1, .int x1), (2, .int x2)] ⟨rfl, ⟨rfl, ⟨rfl, trivial⟩⟩⟩ rfl (zt_X13_act_p202 hL  h)
  · skip
    refine kz_ic (M := kt_M340) 1 kX13_act_c9.1 rfl ?_
    refine kz_goto (M := kt_M340) kX13_act_c9.2.1 (t := 202) rfl ?_
    exact kz_weak [(0, .ref (w_adr E.2.1 12 0)), (1, .int x1), (2, .int x2)] ⟨rfl, ⟨rfl, ⟨rfl, trivial⟩⟩⟩ rfl (zt_X13_act_p202 hL  h)
def zb_X13_act_p158 (E : zE) (L : Nat) (Q : kx_Rs → wS → Prop) (x1 : Int32) (x2 : Int32) (x3 : Int32) (w : wS) : Prop := (if x2 < 0 then zb_X13_act_p217 E L Q x1 x2 w else (if ¬ x3 = 0 then zb_X13_act_p217 E L Q x1 x2 w else (if ¬ w_i w 12 0 134 = 0 then zb_X13_act_p183 E L Q x1 x2 w else (kx_inb x2 (w_n w 12 0 27) = true ∧ zb_X13_act_p183 E L Q x1 x2 (ws_i w 12 0 164 (w_a w 12 0 27 (x2).toNatClampNeg))))))
theorem zt_X13_act_p158 {E : zE} {L : Nat} {Q : kx_Rs → wS → Prop} {x1 : Int32} {x2 : Int32} {x3 : Int32} {w : wS} (hL : 29 ≤ L) (h : zb_X13_act_p158 E L Q x1 x2 x3 w) : kzE E L kt_M340 158 [(0, .ref (w_adr E.2.1 12 0)), (1, .int x1), (2, .int x2), (3, .int x3)] [] w Q := by
  unfold zb_X13_act_p158 at h
  refine kz_iload_n (M := kt_M340) kX13_act_c6.2.2.2.1 rfl ?_
  refine kz_if_lt (M := kt_M340) kX13_act_c6.2.2.2.2.1 (t := 217) rfl h (fun h => ?_) (fun h => ?_)
  · skip
    exact kz_weak [(0, .ref (w_adr E.2.1 12 0)), (1, .int x1), (2, .int x2)] ⟨rfl, ⟨rfl, ⟨rfl, trivial⟩⟩⟩ rfl (zt_X13_act_p217 hL  h)
  · skip
    refine kz_iload_n (M := kt_M340) kX13_act_c6.2.2.2.2.2.1 rfl ?_
    refine kz_if_ne (M := kt_M340) kX13_act_c6.2.2.2.2.2.2.1 (t := 217) rfl h (fun h => ?_) (fun h => ?_)
    · skip
      exact kz_weak [(0, .ref (w_adr E.2.1 12 0)), (1, .int x1), (2, .int x2)] ⟨rfl, ⟨rfl, ⟨rfl, trivial⟩⟩⟩ rfl (zt_X13_act_p217 hL  h)
    · skip
      refine kz_aload_n (M := kt_M340) kX13_act_c6.2.2.2.2.2.2.2.1 rfl ?_
      refine kz_gfi (M := kt_M340) (c := 12) (o := 0) kX13_act_c7.1 wf_X13_1272 (.inl rfl) ?_
      refine kz_if_ne (M := kt_M340) kX13_act_c7.2.1 (t := 183) rfl h (fun h => ?_) (fun h => ?_)
      · skip
        exact kz_weak [(0, .ref (w_adr E.2.1 12 0)), (1, .int x1), (2, .int x2)] ⟨rfl, ⟨rfl, ⟨rfl, trivial⟩⟩⟩ rfl (zt_X13_act_p183 hL  h)
      · skip
        refine kz_aload_n (M := kt_M340) kX13_act_c7.2.2.1 rfl ?_
        refine kz_aload_n (M := kt_M340) kX13_act_c7.2.2.2.1 rfl ?_
        refine kz_gfc (M := kt_M340) (x := 4099) (c := 12) (o := 0) kX13_act_c7.2.2.2.2.1 wf_X13_190 (.inl rfl) ?_
        refine kz_iload_n (M := kt_M340) kX13_act_c7.2.2.2.2.2.1 rfl ?_
        refine kz_iald (M := kt_M340) (c := 12) (o := 0) (k := 27) (a := (E.2.1 4099)) kX13_act_c7.2.2.2.2.2.2.1 ow_12_0_27 oa_12_0_27 ot_0 h (fun h => ?_)
        refine kz_pfi (M := kt_M340) (c := 12) (o := 0) kX13_act_c7.2.2.2.2.2.2.2.1 wq_X13_1302 (.inl rfl) ?_
        exact kz_weak [(0, .ref (w_adr E.2.1 12 0)), (1, .int x1), (2, .int x2)] ⟨rfl, ⟨rfl, ⟨rfl, trivial⟩⟩⟩ rfl (zt_X13_act_p183 hL  h)
def zb_X13_act_p27 (E : zE) (L : Nat) (Q : kx_Rs → wS → Prop) (x1 : Int32) (w : wS) : Prop := zw E (L - 22) kt_M403 [.ref (w_adr E.2.1 12 0), .int (w_i w 12 0 163), .int 0] w (wk1 (fun v2 w1 => wle w w1 → (if ¬ v2 = 5 then (kx_inb x1 (w_n w1 12 0 26) = true ∧ (if w_a w1 12 0 26 (x1).toNatClampNeg = 2 then zw E (L - 21) kt_M511 [.ref (w_adr E.2.1 12 0)] w1 (wk0 (fun w3 => wle w1 w3 → Q (.inl none) w3) (fun e w => Q (.inr e) w)) else (if w_a w1 12 0 26 (x1).toNatClampNeg = 3 then zw E (L - 21) kt_M408 [.ref (w_adr E.2.1 12 0), .int 0] w1 (wkr (fun v6 w5 => wle w1 w5 → (v6 = some (w_adr E.2.1 13 0) ∧ Q (.inr "MeetingHouseModel$Halt") w5)) (fun e w => Q (.inr e) w)) else (if w_a w1 12 0 26 (x1).toNatClampNeg = 4 then zw E (L - 29) kt_M355 [.ref (w_adr E.2.1 12 0), .int x1] w1 (wk0 (fun w7 => wle w1 w7 → zw E (L - 21) kt_M511 [.ref (w_adr E.2.1 12 0)] w7 (wk0 (fun w9 => wle w7 w9 → Q (.inl none) w9) (fun e w => Q (.inr e) w))) (fun e w => Q (.inr e) w)) else (if w_a w1 12 0 26 (x1).toNatClampNeg = 9 then zw E (L - 23) kt_M364 [.ref (w_adr E.2.1 12 0), .int x1] w1 (wk0 (fun w11 => wle w1 w11 → Q (.inl none) w11) (fun e w => Q (.inr e) w)) else (if w_a w1 12 0 26 (x1).toNatClampNeg = 10 then (kx_inb x1 (w_n w1 12 0 28) = true ∧ (kx_inb (w_a w1 12 0 28 (x1).toNatClampNeg) (w_n w1 12 0 28) = true ∧ zw E (L - 25) kt_M404 [.ref (w_adr E.2.1 12 0), .int (w_a w1 12 0 28 (w_a w1 12 0 28 (x1).toNatClampNeg).toNatClampNeg)] w1 (wk1 (fun v14 w13 => wle w1 w13 → (kx_inb x1 (w_n w13 12 0 28) = true ∧ (kx_inb (w_a w13 12 0 28 (x1).toNatClampNeg) (w_n w13 12 0 29) = true ∧ zw E (L - 25) kt_M404 [.ref (w_adr E.2.1 12 0), .int (w_a w13 12 0 29 (w_a w13 12 0 28 (x1).toNatClampNeg).toNatClampNeg)] w13 (wk1 (fun v16 w15 => wle w13 w15 → (if 0 ≤ v16 then zw E (L - 21) kt_M511 [.ref (w_adr E.2.1 12 0)] w15 (wk0 (fun w17 => wle w15 w17 → zw E (L - 25) kt_M518 [.ref (w_adr E.2.1 12 0), .int 5, .int x1, .int v14, .int v16] w17 (wk0 (fun w19 => wle w17 w19 → zw E (L - 21) kt_M463 [.ref (w_adr E.2.1 12 0), .int x1] w19 (wk0 (fun w21 => wle w19 w21 → Q (.inl none) w21) (fun e w => Q (.inr e) w))) (fun e w => Q (.inr e) w))) (fun e w => Q (.inr e) w)) else zw E (L - 21) kt_M408 [.ref (w_adr E.2.1 12 0), .int 7] w15 (wkr (fun v24 w23 => wle w15 w23 → (v24 = some (w_adr E.2.1 13 0) ∧ Q (.inr "MeetingHouseModel$Halt") w23)) (fun e w => Q (.inr e) w)))) (fun e w => Q (.inr e) w))))) (fun e w => Q (.inr e) w)))) else (if w_a w1 12 0 26 (x1).toNatClampNeg = 12 then (kx_inb x1 (w_n w1 12 0 29) = true ∧ zL_X13_act_p158 E L Q x1 (w_a w1 12 0 29 (x1).toNatClampNeg) 0 w1) else (if w_a w1 12 0 26 (x1).toNatClampNeg = 14 then (kx_inb x1 (w_n w1 12 0 28) = true ∧ zw E (L - 25) kt_M404 [.ref (w_adr E.2.1 12 0), .int (w_a w1 12 0 28 (x1).toNatClampNeg)] w1 (wk1 (fun v26 w25 => wle w1 w25 → (kx_inb x1 (w_n w25 12 0 29) = true ∧ zL_X13_act_p284 E L Q v26 (w_a w25 12 0 29 (x1).toNatClampNeg) w25)) (fun e w => Q (.inr e) w))) else (if w_a w1 12 0 26 (x1).toNatClampNeg = 16 then (kx_inb x1 (w_n w1 12 0 28) = true ∧ zw E (L - 25) kt_M404 [.ref (w_adr E.2.1 12 0), .int (w_a w1 12 0 28 (x1).toNatClampNeg)] w1 (wk1 (fun v28 w27 => wle w1 w27 → (if ¬ v28 = 1 then zw E (L - 21) kt_M511 [.ref (w_adr E.2.1 12 0)] w27 (wk0 (fun w29 => wle w27 w29 → zb_X13_act_p378 E L Q w29) (fun e w => Q (.inr e) w)) else (kx_inb x1 (w_n w27 12 0 29) = true ∧ zw E (L - 25) kt_M518 [.ref (w_adr E.2.1 12 0), .int 0, .int (w_a w27 12 0 29 (x1).toNatClampNeg), .int 0, .int 0] w27 (wk0 (fun w31 => wle w27 w31 → zb_X13_act_p378 E L Q w31) (fun e w => Q (.inr e) w))))) (fun e w => Q (.inr e) w))) else zw E (L - 21) kt_M556 [.ref (w_adr E.2.1 12 0), .int x1] w1 (wk0 (fun w33 => wle w1 w33 → Q (.inl none) w33) (fun e w => Q (.inr e) w))))))))))) else zw E (L - 21) kt_M463 [.ref (w_adr E.2.1 12 0), .int x1] w1 (wk0 (fun w35 => wle w1 w35 → Q (.inl none) w35) (fun e w => Q (.inr e) w)))) (fun e w => Q (.inr e) w))
theorem zt_X13_act_p27 {E : zE} {L : Nat} {Q : kx_Rs → wS → Prop} {x1 : Int32} {w : wS} (hL : 29 ≤ L) (h : zb_X13_act_p27 E L Q x1 w) : kzE E L kt_M340 27 [(0, .ref (w_adr E.2.1 12 0)), (1, .int x1)] [] w Q := by
  unfold zb_X13_act_p27 at h
  refine kz_aload_n (M := kt_M340) kX13_act_c1.2.2.2.2.2.2.2.1 rfl ?_
  refine kz_aload_n (M := kt_M340) kX13_act_c2.1 rfl ?_
  refine kz_gfi (M := kt_M340) (c := 12) (o := 0) kX13_act_c2.2.1 wf_X13_1165 (.inl rfl) ?_
  refine kz_ic (M := kt_M340) 0 kX13_act_c2.2.2.1 rfl ?_
  refine kz_cv1 (M := kt_M340) (c := 12) (o := 0) (As := [.int (w_i w 12 0 163), .int 0]) (rest := []) kX13_act_c2.2.2.2.1 wl_X13_1155 wMv_403 rfl (.inl rfl) rfl (Nat.le_trans (Nat.le_of_ble_eq_true rfl) hL) (Nat.le_of_ble_eq_true rfl) (Nat.le_of_ble_eq_true rfl) h (fun v2 w1 hle h => ?_) (fun _ _ _ h => kzx_no rfl h)
  have h := h hle
  refine kz_ic (M := kt_M340) 5 kX13_act_c2.2.2.2.2.1 rfl ?_
  refine kz_icmp_ne (M := kt_M340) kX13_act_c2.2.2.2.2.2.1 (t := 46) rfl h (fun h => ?_) (fun h => ?_)
  · skip
    refine kz_aload_n (M := kt_M340) kX13_act_c3.2.2.1 rfl ?_
    refine kz_gfc (M := kt_M340) (x := 4098) (c := 12) (o := 0) kX13_act_c3.2.2.2.1 wf_X13_187 (.inl rfl) ?_
    refine kz_iload_n (M := kt_M340) kX13_act_c3.2.2.2.2.1 rfl ?_
    refine kz_iald (M := kt_M340) (c := 12) (o := 0) (k := 26) (a := (E.2.1 4098)) kX13_act_c3.2.2.2.2.2.1 ow_12_0_26 oa_12_0_26 ot_0 h (fun h => ?_)
    refine kz_tsw (M := kt_M340) [(2, 128), (3, 133), (4, 139), (9, 440), (10, 379), (12, 149), (14, 266), (16, 344)] [_, _, _, _, _, _, _, _] 446 dX13_act_p52 (by decide +kernel) h ⟨fun h => ?_, fun h => ?_, fun h => ?_, fun h => ?_, fun h => ?_, fun h => ?_, fun h => ?_, fun h => ?_, trivial⟩ (fun h => ?_)
    · skip
      refine kz_aload_n (M := kt_M340) kX13_act_c3.2.2.2.2.2.2.2.1 rfl ?_
      refine kz_cv0 (M := kt_M340) (c := 12) (o := 0) (As := []) (rest := []) kX13_act_c4.1 wl_X13_1290 wMv_511 rfl (.inl rfl) rfl (Nat.le_trans (Nat.le_of_ble_eq_true rfl) hL) (Nat.le_of_ble_eq_true rfl) (Nat.le_of_ble_eq_true rfl) h (fun w3 hle h => ?_) (fun _ _ _ h => kzx_no rfl h)
      have h := h hle
      exact kz_ret (M := kt_M340) kX13_act_c4.2.1 rfl h
    · skip
      refine kz_aload_n (M := kt_M340) kX13_act_c4.2.2.1 rfl ?_
      refine kz_ic (M := kt_M340) 0 kX13_act_c4.2.2.2.1 rfl ?_
      refine kz_cvr (M := kt_M340) (c := 12) (o := 0) (As := [.int 0]) (rest := []) kX13_act_c4.2.2.2.2.1 wl_X13_839 wMv_408 rfl (.inl rfl) rfl (Nat.le_trans (Nat.le_of_ble_eq_true rfl) hL) (Nat.le_of_ble_eq_true rfl) (Nat.le_of_ble_eq_true rfl) h (fun v6 w5 hle h => ?_) (fun _ _ _ h => kzx_no rfl h)
      have h := h hle
      exact kz_throw (M := kt_M340) (c := 13) (o := 0) kX13_act_c4.2.2.2.2.2.1 rfl (.inl rfl) h (fun h => kzx_no rfl h)
    · skip
      refine kz_aload_n (M := kt_M340) kX13_act_c4.2.2.2.2.2.2.1 rfl ?_
      refine kz_iload_n (M := kt_M340) kX13_act_c4.2.2.2.2.2.2.2.1 rfl ?_
      refine kz_cv0 (M := kt_M340) (c := 12) (o := 0) (As := [.int x1]) (rest := []) kX13_act_c5.1 wl_X13_1343 wMv_355 rfl (.inl rfl) rfl (Nat.le_trans (Nat.le_of_ble_eq_true rfl) hL) (Nat.le_of_ble_eq_true rfl) (Nat.le_of_ble_eq_true rfl) h (fun w7 hle h => ?_) (fun _ _ _ h => kzx_no rfl h)
      have h := h hle
      refine kz_aload_n (M := kt_M340) kX13_act_c5.2.1 rfl ?_
      refine kz_cv0 (M := kt_M340) (c := 12) (o := 0) (As := []) (rest := []) kX13_act_c5.2.2.1 wl_X13_1290 wMv_511 rfl (.inl rfl) rfl (Nat.le_trans (Nat.le_of_ble_eq_true rfl) hL) (Nat.le_of_ble_eq_true rfl) (Nat.le_of_ble_eq_true rfl) h (fun w9 hle h => ?_) (fun _ _ _ h => kzx_no rfl h)
      have h := h hle
      exact kz_ret (M := kt_M340) kX13_act_c5.2.2.2.1 rfl h
    · skip
      refine kz_aload_n (M := kt_M340) kX13_act_c27.2.2.2.2.1 rfl ?_
      refine kz_iload_n (M := kt_M340) kX13_act_c27.2.2.2.2.2.1 rfl ?_
      refine kz_cv0 (M := kt_M340) (c := 12) (o := 0) (As := [.int x1]) (rest := []) kX13_act_c27.2.2.2.2.2.2.1 wl_X13_1349 wMv_364 rfl (.inl rfl) rfl (Nat.le_trans (Nat.le_of_ble_eq_true rfl) hL) (Nat.le_of_ble_eq_true rfl) (Nat.le_of_ble_eq_true rfl) h (fun w11 hle h => ?_) (fun _ _ _ h => kzx_no rfl h)
      have h := h hle
      exact kz_ret (M := kt_M340) kX13_act_c27.2.2.2.2.2.2.2.1 rfl h
    · skip
      refine kz_aload_n (M := kt_M340) kX13_act_c22.2.2.2.2.2.2.1 rfl ?_
      refine kz_aload_n (M := kt_M340) kX13_act_c22.2.2.2.2.2.2.2.1 rfl ?_
      refine kz_gfc (M := kt_M340) (x := 4100) (c := 12) (o := 0) kX13_act_c23.1 wf_X13_193 (.inl rfl) ?_
      refine kz_aload_n (M := kt_M340) kX13_act_c23.2.1 rfl ?_
      refine kz_gfc (M := kt_M340) (x := 4100) (c := 12) (o := 0) kX13_act_c23.2.2.1 wf_X13_193 (.inl rfl) ?_
      refine kz_iload_n (M := kt_M340) kX13_act_c23.2.2.2.1 rfl ?_
      refine kz_iald (M := kt_M340) (c := 12) (o := 0) (k := 28) (a := (E.2.1 4100)) kX13_act_c23.2.2.2.2.1 ow_12_0_28 oa_12_0_28 ot_0 h (fun h => ?_)
      refine kz_iald (M := kt_M340) (c := 12) (o := 0) (k := 28) (a := (E.2.1 4100)) kX13_act_c23.2.2.2.2.2.1 ow_12_0_28 oa_12_0_28 ot_0 h (fun h => ?_)
      refine kz_cv1 (M := kt_M340) (c := 12) (o := 0) (As := [.int (w_a w1 12 0 28 (w_a w1 12 0 28 (x1).toNatClampNeg).toNatClampNeg)]) (rest := []) kX13_act_c23.2.2.2.2.2.2.1 wl_X13_1207 wMv_404 rfl (.inl rfl) rfl (Nat.le_trans (Nat.le_of_ble_eq_true rfl) hL) (Nat.le_of_ble_eq_true rfl) (Nat.le_of_ble_eq_true rfl) h (fun v14 w13 hle h => ?_) (fun _ _ _ h => kzx_no rfl h)
      have h := h hle
      refine kz_sti_n (M := kt_M340) [(0, .ref (w_adr E.2.1 12 0)), (1, .int x1)] kX13_act_c23.2.2.2.2.2.2.2.1 (Nat.le_of_ble_eq_true rfl) ⟨⟨rfl, rfl, .inl rfl⟩, ⟨⟨rfl, rfl, .inr rfl⟩, trivial⟩⟩ rfl ?_
      refine kz_aload_n (M := kt_M340) kX13_act_c24.1 rfl ?_
      refine kz_aload_n (M := kt_M340) kX13_act_c24.2.1 rfl ?_
      refine kz_gfc (M := kt_M340) (x := 4101) (c := 12) (o := 0) kX13_act_c24.2.2.1 wf_X13_196 (.inl rfl) ?_
      refine kz_aload_n (M := kt_M340) kX13_act_c24.2.2.2.1 rfl ?_
      refine kz_gfc (M := kt_M340) (x := 4100) (c := 12) (o := 0) kX13_act_c24.2.2.2.2.1 wf_X13_193 (.inl rfl) ?_
      refine kz_iload_n (M := kt_M340) kX13_act_c24.2.2.2.2.2.1 rfl ?_
      refine kz_iald (M := kt_M340) (c := 12) (o := 0) (k := 28) (a := (E.2.1 4100)) kX13_act_c24.2.2.2.2.2.2.1 ow_12_0_28 oa_12_0_28 ot_0 h (fun h => ?_)
      refine kz_iald (M := kt_M340) (c := 12) (o := 0) (k := 29) (a := (E.2.1 4101)) kX13_act_c24.2.2.2.2.2.2.2.1 ow_12_0_29 oa_12_0_29 ot_0 h (fun h => ?_)
      refine kz_cv1 (M := kt_M340) (c := 12) (o := 0) (As := [.int (w_a w13 12 0 29 (w_a w13 12 0 28 (x1).toNatClampNeg).toNatClampNeg)]) (rest := []) kX13_act_c25.1 wl_X13_1207 wMv_404 rfl (.inl rfl) rfl (Nat.le_trans (Nat.le_of_ble_eq_true rfl) hL) (Nat.le_of_ble_eq_true rfl) (Nat.le_of_ble_eq_true rfl) h (fun v16 w15 hle h => ?_) (fun _ _ _ h => kzx_no rfl h)
      have h := h hle
      refine kz_sti_n (M := kt_M340) [(0, .ref (w_adr E.2.1 12 0)), (1, .int x1), (2, .int v14)] kX13_act_c25.2.1 (Nat.le_of_ble_eq_true rfl) ⟨⟨rfl, rfl, .inl rfl⟩, ⟨⟨rfl, rfl, .inl rfl⟩, ⟨⟨rfl, rfl, .inr rfl⟩, trivial⟩⟩⟩ rfl ?_
      refine kz_iload_n (M := kt_M340) kX13_act_c25.2.2.1 rfl ?_
      refine kz_if_ge (M := kt_M340) kX13_act_c25.2.2.2.1 (t := 422) rfl h (fun h => ?_) (fun h => ?_)
      · skip
        refine kz_aload_n (M := kt_M340) kX13_act_c26.1 rfl ?_
        refine kz_cv0 (M := kt_M340) (c := 12) (o := 0) (As := []) (rest := []) kX13_act_c26.2.1 wl_X13_1290 wMv_511 rfl (.inl rfl) rfl (Nat.le_trans (Nat.le_of_ble_eq_true rfl) hL) (Nat.le_of_ble_eq_true rfl) (Nat.le_of_ble_eq_true rfl) h (fun w17 hle h => ?_) (fun _ _ _ h => kzx_no rfl h)
        have h := h hle
        refine kz_aload_n (M := kt_M340) kX13_act_c26.2.2.1 rfl ?_
        refine kz_ic (M := kt_M340) 5 kX13_act_c26.2.2.2.1 rfl ?_
        refine kz_iload_n (M := kt_M340) kX13_act_c26.2.2.2.2.1 rfl ?_
        refine kz_iload_n (M := kt_M340) kX13_act_c26.2.2.2.2.2.1 rfl ?_
        refine kz_iload_n (M := kt_M340) kX13_act_c26.2.2.2.2.2.2.1 rfl ?_
        refine kz_cv0 (M := kt_M340) (c := 12) (o := 0) (As := [.int 5, .int x1, .int v14, .int v16]) (rest := []) kX13_act_c26.2.2.2.2.2.2.2.1 wl_X13_1278 wMv_518 rfl (.inl rfl) rfl (Nat.le_trans (Nat.le_of_ble_eq_true rfl) hL) (Nat.le_of_ble_eq_true rfl) (Nat.le_of_ble_eq_true rfl) h (fun w19 hle h => ?_) (fun _ _ _ h => kzx_no rfl h)
        have h := h hle
        refine kz_aload_n (M := kt_M340) kX13_act_c27.1 rfl ?_
        refine kz_iload_n (M := kt_M340) kX13_act_c27.2.1 rfl ?_
        refine kz_cv0 (M := kt_M340) (c := 12) (o := 0) (As := [.int x1]) (rest := []) kX13_act_c27.2.2.1 wl_X13_1340 wMv_463 rfl (.inl rfl) rfl (Nat.le_trans (Nat.le_of_ble_eq_true rfl) hL) (Nat.le_of_ble_eq_true rfl) (Nat.le_of_ble_eq_true rfl) h (fun w21 hle h => ?_) (fun _ _ _ h => kzx_no rfl h)
        have h := h hle
        exact kz_ret (M := kt_M340) kX13_act_c27.2.2.2.1 rfl h
      · skip
        refine kz_aload_n (M := kt_M340) kX13_act_c25.2.2.2.2.1 rfl ?_
        refine kz_bi (M := kt_M340) 7 kX13_act_c25.2.2.2.2.2.1 rfl ?_
        refine kz_cvr (M := kt_M340) (c := 12) (o := 0) (As := [.int 7]) (rest := []) kX13_act_c25.2.2.2.2.2.2.1 wl_X13_839 wMv_408 rfl (.inl rfl) rfl (Nat.le_trans (Nat.le_of_ble_eq_true rfl) hL) (Nat.le_of_ble_eq_true rfl) (Nat.le_of_ble_eq_true rfl) h (fun v24 w23 hle h => ?_) (fun _ _ _ h => kzx_no rfl h)
        have h := h hle
        exact kz_throw (M := kt_M340) (c := 13) (o := 0) kX13_act_c25.2.2.2.2.2.2.2.1 rfl (.inl rfl) h (fun h => kzx_no rfl h)
    · skip
      refine kz_aload_n (M := kt_M340) kX13_act_c5.2.2.2.2.1 rfl ?_
      refine kz_gfc (M := kt_M340) (x := 4101) (c := 12) (o := 0) kX13_act_c5.2.2.2.2.2.1 wf_X13_196 (.inl rfl) ?_
      refine kz_iload_n (M := kt_M340) kX13_act_c5.2.2.2.2.2.2.1 rfl ?_
      refine kz_iald (M := kt_M340) (c := 12) (o := 0) (k := 29) (a := (E.2.1 4101)) kX13_act_c5.2.2.2.2.2.2.2.1 ow_12_0_29 oa_12_0_29 ot_0 h (fun h => ?_)
      refine kz_sti_n (M := kt_M340) [(0, .ref (w_adr E.2.1 12 0)), (1, .int x1)] kX13_act_c6.1 (Nat.le_of_ble_eq_true rfl) ⟨⟨rfl, rfl, .inl rfl⟩, ⟨⟨rfl, rfl, .inr rfl⟩, trivial⟩⟩ rfl ?_
      refine kz_ic (M := kt_M340) 0 kX13_act_c6.2.1 rfl ?_
      refine kz_sti_n (M := kt_M340) [(0, .ref (w_adr E.2.1 12 0)), (1, .int x1), (2, .int (w_a w1 12 0 29 (x1).toNatClampNeg))] kX13_act_c6.2.2.1 (Nat.le_of_ble_eq_true rfl) ⟨⟨rfl, rfl, .inl rfl⟩, ⟨⟨rfl, rfl, .inl rfl⟩, ⟨⟨rfl, rfl, .inr rfl⟩, trivial⟩⟩⟩ rfl ?_
      exact kz_weak [(0, .ref (w_adr E.2.1 12 0)), (1, .int x1), (2, .int (w_a w1 12 0 29 (x1).toNatClampNeg)), (3, .int 0)] ⟨rfl, ⟨rfl, ⟨rfl, ⟨rfl, trivial⟩⟩⟩⟩ rfl h
    · skip
      refine kz_aload_n (M := kt_M340) kX13_act_c14.2.1 rfl ?_
      refine kz_aload_n (M := kt_M340) kX13_act_c14.2.2.1 rfl ?_
      refine kz_gfc (M := kt_M340) (x := 4100) (c := 12) (o := 0) kX13_act_c14.2.2.2.1 wf_X13_193 (.inl rfl) ?_
      refine kz_iload_n (M := kt_M340) kX13_act_c14.2.2.2.2.1 rfl ?_
      refine kz_iald (M := kt_M340) (c := 12) (o := 0) (k := 28) (a := (E.2.1 4100)) kX13_act_c14.2.2.2.2.2.1 ow_12_0_28 oa_12_0_28 ot_0 h (fun h => ?_)
      refine kz_cv1 (M := kt_M340) (c := 12) (o := 0) (As := [.int (w_a w1 12 0 28 (x1).toNatClampNeg)]) (rest := []) kX13_act_c14.2.2.2.2.2.2.1 wl_X13_1207 wMv_404 rfl (.inl rfl) rfl (Nat.le_trans (Nat.le_of_ble_eq_true rfl) hL) (Nat.le_of_ble_eq_true rfl) (Nat.le_of_ble_eq_true rfl) h (fun v26 w25 hle h => ?_) (fun _ _ _ h => kzx_no rfl h)
      have h := h hle
      refine kz_sti_n (M := kt_M340) [(0, .ref (w_adr E.2.1 12 0)), (1, .int x1)] kX13_act_c14.2.2.2.2.2.2.2.1 (Nat.le_of_ble_eq_true rfl) ⟨⟨rfl, rfl, .inl rfl⟩, ⟨⟨rfl, rfl, .inr rfl⟩, trivial⟩⟩ rfl ?_
      refine kz_aload_n (M := kt_M340) kX13_act_c15.1 rfl ?_
      refine kz_gfc (M := kt_M340) (x := 4101) (c := 12) (o := 0) kX13_act_c15.2.1 wf_X13_196 (.inl rfl) ?_
      refine kz_iload_n (M := kt_M340) kX13_act_c15.2.2.1 rfl ?_
      refine kz_iald (M := kt_M340) (c := 12) (o := 0) (k := 29) (a := (E.2.1 4101)) kX13_act_c15.2.2.2.1 ow_12_0_29 oa_12_0_29 ot_0 h (fun h => ?_)
      refine kz_sti_n (M := kt_M340) [(0, .ref (w_adr E.2.1 12 0)), (2, .int v26)] kX13_act_c15.2.2.2.2.1 (Nat.le_of_ble_eq_true rfl) ⟨⟨rfl, rfl, .inl rfl⟩, ⟨⟨rfl, rfl, .inr rfl⟩, trivial⟩⟩ rfl ?_
      exact kz_weak [(0, .ref (w_adr E.2.1 12 0)), (2, .int v26), (3, .int (w_a w25 12 0 29 (x1).toNatClampNeg))] ⟨rfl, ⟨rfl, ⟨rfl, trivial⟩⟩⟩ rfl h
    · skip
      refine kz_aload_n (M := kt_M340) kX13_act_c20.2.1 rfl ?_
      refine kz_aload_n (M := kt_M340) kX13_act_c20.2.2.1 rfl ?_
      refine kz_gfc (M := kt_M340) (x := 4100) (c := 12) (o := 0) kX13_act_c20.2.2.2.1 wf_X13_193 (.inl rfl) ?_
      refine kz_iload_n (M := kt_M340) kX13_act_c20.2.2.2.2.1 rfl ?_
      refine kz_iald (M := kt_M340) (c := 12) (o := 0) (k := 28) (a := (E.2.1 4100)) kX13_act_c20.2.2.2.2.2.1 ow_12_0_28 oa_12_0_28 ot_0 h (fun h => ?_)
      refine kz_cv1 (M := kt_M340) (c := 12) (o := 0) (As := [.int (w_a w1 12 0 28 (x1).toNatClampNeg)]) (rest := []) kX13_act_c20.2.2.2.2.2.2.1 wl_X13_1207 wMv_404 rfl (.inl rfl) rfl (Nat.le_trans (Nat.le_of_ble_eq_true rfl) hL) (Nat.le_of_ble_eq_true rfl) (Nat.le_of_ble_eq_true rfl) h (fun v28 w27 hle h => ?_) (fun _ _ _ h => kzx_no rfl h)
      have h := h hle
      refine kz_ic (M := kt_M340) 1 kX13_act_c20.2.2.2.2.2.2.2.1 rfl ?_
      refine kz_icmp_ne (M := kt_M340) kX13_act_c21.1 (t := 374) rfl h (fun h => ?_) (fun h => ?_)
      · skip
        refine kz_aload_n (M := kt_M340) kX13_act_c22.2.2.2.1 rfl ?_
        refine kz_cv0 (M := kt_M340) (c := 12) (o := 0) (As := []) (rest := []) kX13_act_c22.2.2.2.2.1 wl_X13_1290 wMv_511 rfl (.inl rfl) rfl (Nat.le_trans (Nat.le_of_ble_eq_true rfl) hL) (Nat.le_of_ble_eq_true rfl) (Nat.le_of_ble_eq_true rfl) h (fun w29 hle h => ?_) (fun _ _ _ h => kzx_no rfl h)
        have h := h hle
        exact kz_weak [(0, .ref (w_adr E.2.1 12 0))] ⟨rfl, trivial⟩ rfl (zt_X13_act_p378 hL  h)
      · skip
        refine kz_aload_n (M := kt_M340) kX13_act_c21.2.1 rfl ?_
        refine kz_ic (M := kt_M340) 0 kX13_act_c21.2.2.1 rfl ?_
        refine kz_aload_n (M := kt_M340) kX13_act_c21.2.2.2.1 rfl ?_
        refine kz_gfc (M := kt_M340) (x := 4101) (c := 12) (o := 0) kX13_act_c21.2.2.2.2.1 wf_X13_196 (.inl rfl) ?_
        refine kz_iload_n (M := kt_M340) kX13_act_c21.2.2.2.2.2.1 rfl ?_
        refine kz_iald (M := kt_M340) (c := 12) (o := 0) (k := 29) (a := (E.2.1 4101)) kX13_act_c21.2.2.2.2.2.2.1 ow_12_0_29 oa_12_0_29 ot_0 h (fun h => ?_)
        refine kz_ic (M := kt_M340) 0 kX13_act_c21.2.2.2.2.2.2.2.1 rfl ?_
        refine kz_ic (M := kt_M340) 0 kX13_act_c22.1 rfl ?_
        refine kz_cv0 (M := kt_M340) (c := 12) (o := 0) (As := [.int 0, .int (w_a w27 12 0 29 (x1).toNatClampNeg), .int 0, .int 0]) (rest := []) kX13_act_c22.2.1 wl_X13_1278 wMv_518 rfl (.inl rfl) rfl (Nat.le_trans (Nat.le_of_ble_eq_true rfl) hL) (Nat.le_of_ble_eq_true rfl) (Nat.le_of_ble_eq_true rfl) h (fun w31 hle h => ?_) (fun _ _ _ h => kzx_no rfl h)
        have h := h hle
        refine kz_goto (M := kt_M340) kX13_act_c22.2.2.1 (t := 378) rfl ?_
        exact kz_weak [(0, .ref (w_adr E.2.1 12 0))] ⟨rfl, trivial⟩ rfl (zt_X13_act_p378 hL  h)
    · skip
      refine kz_aload_n (M := kt_M340) kX13_act_c28.1 rfl ?_
      refine kz_iload_n (M := kt_M340) kX13_act_c28.2.1 rfl ?_
      refine kz_cv0 (M := kt_M340) (c := 12) (o := 0) (As := [.int x1]) (rest := []) kX13_act_c28.2.2.1 wl_X13_1352 wMv_556 rfl (.inl rfl) rfl (Nat.le_trans (Nat.le_of_ble_eq_true rfl) hL) (Nat.le_of_ble_eq_true rfl) (Nat.le_of_ble_eq_true rfl) h (fun w33 hle h => ?_) (fun _ _ _ h => kzx_no rfl h)
      have h := h hle
      exact kz_ret (M := kt_M340) kX13_act_c28.2.2.2.1 rfl h
  · skip
    refine kz_aload_n (M := kt_M340) kX13_act_c2.2.2.2.2.2.2.1 rfl ?_
    refine kz_iload_n (M := kt_M340) kX13_act_c2.2.2.2.2.2.2.2.1 rfl ?_
    refine kz_cv0 (M := kt_M340) (c := 12) (o := 0) (As := [.int x1]) (rest := []) kX13_act_c3.1 wl_X13_1340 wMv_463 rfl (.inl rfl) rfl (Nat.le_trans (Nat.le_of_ble_eq_true rfl) hL) (Nat.le_of_ble_eq_true rfl) (Nat.le_of_ble_eq_true rfl) h (fun w35 hle h => ?_) (fun _ _ _ h => kzx_no rfl h)
    have h := h hle
    exact kz_ret (M := kt_M340) kX13_act_c3.2.1 rfl h
def zb_X13_act_p0 (E : zE) (L : Nat) (Q : kx_Rs → wS → Prop) (w : wS) : Prop := zw E (L - 22) kt_M403 [.ref (w_adr E.2.1 12 0), .int (w_i w 12 0 163), .int 1] w (wk1 (fun v2 w1 => wle w w1 → (if ¬ w_i w1 12 0 134 = 0 then zb_X13_act_p27 E L Q v2 w1 else (kx_inb v2 (w_n w1 12 0 27) = true ∧ zb_X13_act_p27 E L Q v2 (ws_i w1 12 0 164 (w_a w1 12 0 27 (v2).toNatClampNeg))))) (fun e w => Q (.inr e) w))
theorem zt_X13_act_p0 {E : zE} {L : Nat} {Q : kx_Rs → wS → Prop} {w : wS} (hL : 29 ≤ L) (h : zb_X13_act_p0 E L Q  w) : kzE E L kt_M340 0 [(0, .ref (w_adr E.2.1 12 0))] [] w Q := by
  unfold zb_X13_act_p0 at h
  refine kz_aload_n (M := kt_M340) kX13_act_c0.1 rfl ?_
  refine kz_aload_n (M := kt_M340) kX13_act_c0.2.1 rfl ?_
  refine kz_gfi (M := kt_M340) (c := 12) (o := 0) kX13_act_c0.2.2.1 wf_X13_1165 (.inl rfl) ?_
  refine kz_ic (M := kt_M340) 1 kX13_act_c0.2.2.2.1 rfl ?_
  refine kz_cv1 (M := kt_M340) (c := 12) (o := 0) (As := [.int (w_i w 12 0 163), .int 1]) (rest := []) kX13_act_c0.2.2.2.2.1 wl_X13_1155 wMv_403 rfl (.inl rfl) rfl (Nat.le_trans (Nat.le_of_ble_eq_true rfl) hL) (Nat.le_of_ble_eq_true rfl) (Nat.le_of_ble_eq_true rfl) h (fun v2 w1 hle h => ?_) (fun _ _ _ h => kzx_no rfl h)
  have h := h hle
  refine kz_sti_n (M := kt_M340) [(0, .ref (w_adr E.2.1 12 0))] kX13_act_c0.2.2.2.2.2.1 (Nat.le_of_ble_eq_true rfl) ⟨⟨rfl, rfl, .inr rfl⟩, trivial⟩ rfl ?_
  refine kz_aload_n (M := kt_M340) kX13_act_c0.2.2.2.2.2.2.1 rfl ?_
  refine kz_gfi (M := kt_M340) (c := 12) (o := 0) kX13_act_c0.2.2.2.2.2.2.2.1 wf_X13_1272 (.inl rfl) ?_
  refine kz_if_ne (M := kt_M340) kX13_act_c1.1 (t := 27) rfl h (fun h => ?_) (fun h => ?_)
  · skip
    exact kz_weak [(0, .ref (w_adr E.2.1 12 0)), (1, .int v2)] ⟨rfl, ⟨rfl, trivial⟩⟩ rfl (zt_X13_act_p27 hL  h)
  · skip
    refine kz_aload_n (M := kt_M340) kX13_act_c1.2.1 rfl ?_
    refine kz_aload_n (M := kt_M340) kX13_act_c1.2.2.1 rfl ?_
    refine kz_gfc (M := kt_M340) (x := 4099) (c := 12) (o := 0) kX13_act_c1.2.2.2.1 wf_X13_190 (.inl rfl) ?_
    refine kz_iload_n (M := kt_M340) kX13_act_c1.2.2.2.2.1 rfl ?_
    refine kz_iald (M := kt_M340) (c := 12) (o := 0) (k := 27) (a := (E.2.1 4099)) kX13_act_c1.2.2.2.2.2.1 ow_12_0_27 oa_12_0_27 ot_0 h (fun h => ?_)
    refine kz_pfi (M := kt_M340) (c := 12) (o := 0) kX13_act_c1.2.2.2.2.2.2.1 wq_X13_1302 (.inl rfl) ?_
    exact kz_weak [(0, .ref (w_adr E.2.1 12 0)), (1, .int v2)] ⟨rfl, ⟨rfl, trivial⟩⟩ rfl (zt_X13_act_p27 hL  h)
def zb_X13_loop_p0 (E : zE) (L : Nat) (Q : kx_Rs → wS → Prop) (x1 : Int32) (w : wS) : Prop := zw E (L - 22) kt_M403 [.ref (w_adr E.2.1 12 0), .int (w_i w 12 0 163), .int 3] w (wk1 (fun v2 w1 => wle w w1 → (if ¬ v2 = 0 then (kx_inb x1 (w_n w1 12 0 28) = true ∧ (kx_inb (w_a w1 12 0 28 (x1).toNatClampNeg) (w_n w1 12 0 31) = true ∧ zw E (L - 21) kt_M540 [.ref (w_adr E.2.1 12 0), .int (w_a w1 12 0 31 (w_a w1 12 0 28 (x1).toNatClampNeg).toNatClampNeg)] w1 (wk1 (fun v4 w3 => wle w1 w3 → zw E (L - 22) kt_M403 [.ref (w_adr E.2.1 12 0), .int (w_i w3 12 0 163), .int 2] w3 (wk1 (fun v6 w5 => wle w3 w5 → zw E (L - 22) kt_M547 [.ref (w_adr E.2.1 12 0), .int v4, .int v6] w5 (wk0 (fun w7 => wle w5 w7 → zw E (L - 22) kt_M403 [.ref (w_adr E.2.1 12 0), .int (w_i w7 12 0 163), .int 2] w7 (wk1 (fun v10 w9 => wle w7 w9 → zw E (L - 23) kt_M402 [.ref (w_adr E.2.1 12 0), .int (w_i w7 12 0 163), .int 2, .int (v10 + 1)] w9 (wk0 (fun w11 => wle w9 w11 → zw E (L - 22) kt_M403 [.ref (w_adr E.2.1 12 0), .int (w_i w11 12 0 163), .int 3] w11 (wk1 (fun v14 w13 => wle w11 w13 → zw E (L - 23) kt_M402 [.ref (w_adr E.2.1 12 0), .int (w_i w11 12 0 163), .int 3, .int (v14 - 1)] w13 (wk0 (fun w15 => wle w13 w15 → (kx_inb x1 (w_n w15 12 0 29) = true ∧ zw E (L - 25) kt_M518 [.ref (w_adr E.2.1 12 0), .int 0, .int (w_a w15 12 0 29 (x1).toNatClampNeg), .int 0, .int 0] w15 (wk0 (fun w17 => wle w15 w17 → Q (.inl none) w17) (fun e w => Q (.inr e) w)))) (fun e w => Q (.inr e) w))) (fun e w => Q (.inr e) w))) (fun e w => Q (.inr e) w))) (fun e w => Q (.inr e) w))) (fun e w => Q (.inr e) w))) (fun e w => Q (.inr e) w))) (fun e w => Q (.inr e) w)))) else zw E (L - 21) kt_M511 [.ref (w_adr E.2.1 12 0)] w1 (wk0 (fun w19 => wle w1 w19 → Q (.inl none) w19) (fun e w => Q (.inr e) w)))) (fun e w => Q (.inr e) w))
theorem zt_X13_loop_p0 {E : zE} {L : Nat} {Q : kx_Rs → wS → Prop} {x1 : Int32} {w : wS} (hL : 25 ≤ L) (h : zb_X13_loop_p0 E L Q x1 w) : kzE E L kt_M463 0 [(0, .ref (w_adr E.2.1 12 0)), (1, .int x1)] [] w Q := by
  unfold zb_X13_loop_p0 at h
  refine kz_aload_n (M := kt_M463) kX13_loop_c0.1 rfl ?_
  refine kz_aload_n (M := kt_M463) kX13_loop_c0.2.1 rfl ?_
  refine kz_gfi (M := kt_M463) (c := 12) (o := 0) kX13_loop_c0.2.2.1 wf_X13_1165 (.inl rfl) ?_
  refine kz_ic (M := kt_M463) 3 kX13_loop_c0.2.2.2.1 rfl ?_
  refine kz_cv1 (M := kt_M463) (c := 12) (o := 0) (As := [.int (w_i w 12 0 163), .int 3]) (rest := []) kX13_loop_c0.2.2.2.2.1 wl_X13_1155 wMv_403 rfl (.inl rfl) rfl (Nat.le_trans (Nat.le_of_ble_eq_true rfl) hL) (Nat.le_of_ble_eq_true rfl) (Nat.le_of_ble_eq_true rfl) h (fun v2 w1 hle h => ?_) (fun _ _ _ h => kzx_no rfl h)
  have h := h hle
  refine kz_if_ne (M := kt_M463) kX13_loop_c0.2.2.2.2.2.1 (t := 17) rfl h (fun h => ?_) (fun h => ?_)
  · skip
    refine kz_aload_n (M := kt_M463) kX13_loop_c1.2.1 rfl ?_
    refine kz_aload_n (M := kt_M463) kX13_loop_c1.2.2.1 rfl ?_
    refine kz_aload_n (M := kt_M463) kX13_loop_c1.2.2.2.1 rfl ?_
    refine kz_gfc (M := kt_M463) (x := 4103) (c := 12) (o := 0) kX13_loop_c1.2.2.2.2.1 wf_X13_202 (.inl rfl) ?_
    refine kz_aload_n (M := kt_M463) kX13_loop_c1.2.2.2.2.2.1 rfl ?_
    refine kz_gfc (M := kt_M463) (x := 4100) (c := 12) (o := 0) kX13_loop_c1.2.2.2.2.2.2.1 wf_X13_193 (.inl rfl) ?_
    refine kz_iload_n (M := kt_M463) kX13_loop_c1.2.2.2.2.2.2.2.1 rfl ?_
    refine kz_iald (M := kt_M463) (c := 12) (o := 0) (k := 28) (a := (E.2.1 4100)) kX13_loop_c2.1 ow_12_0_28 oa_12_0_28 ot_0 h (fun h => ?_)
    refine kz_iald (M := kt_M463) (c := 12) (o := 0) (k := 31) (a := (E.2.1 4103)) kX13_loop_c2.2.1 ow_12_0_31 oa_12_0_31 ot_0 h (fun h => ?_)
    refine kz_cv1 (M := kt_M463) (c := 12) (o := 0) (As := [.int (w_a w1 12 0 31 (w_a w1 12 0 28 (x1).toNatClampNeg).toNatClampNeg)]) (rest := [.ref (w_adr E.2.1 12 0)]) kX13_loop_c2.2.2.1 wl_X13_1210 wMv_540 rfl (.inl rfl) rfl (Nat.le_trans (Nat.le_of_ble_eq_true rfl) hL) (Nat.le_of_ble_eq_true rfl) (Nat.le_of_ble_eq_true rfl) h (fun v4 w3 hle h => ?_) (fun _ _ _ h => kzx_no rfl h)
    have h := h hle
    refine kz_aload_n (M := kt_M463) kX13_loop_c2.2.2.2.1 rfl ?_
    refine kz_aload_n (M := kt_M463) kX13_loop_c2.2.2.2.2.1 rfl ?_
    refine kz_gfi (M := kt_M463) (c := 12) (o := 0) kX13_loop_c2.2.2.2.2.2.1 wf_X13_1165 (.inl rfl) ?_
    refine kz_ic (M := kt_M463) 2 kX13_loop_c2.2.2.2.2.2.2.1 rfl ?_
    refine kz_cv1 (M := kt_M463) (c := 12) (o := 0) (As := [.int (w_i w3 12 0 163), .int 2]) (rest := [.int v4, .ref (w_adr E.2.1 12 0)]) kX13_loop_c2.2.2.2.2.2.2.2.1 wl_X13_1155 wMv_403 rfl (.inl rfl) rfl (Nat.le_trans (Nat.le_of_ble_eq_true rfl) hL) (Nat.le_of_ble_eq_true rfl) (Nat.le_of_ble_eq_true rfl) h (fun v6 w5 hle h => ?_) (fun _ _ _ h => kzx_no rfl h)
    have h := h hle
    refine kz_cv0 (M := kt_M463) (c := 12) (o := 0) (As := [.int v4, .int v6]) (rest := []) kX13_loop_c3.1 wl_X13_1140 wMv_547 rfl (.inl rfl) rfl (Nat.le_trans (Nat.le_of_ble_eq_true rfl) hL) (Nat.le_of_ble_eq_true rfl) (Nat.le_of_ble_eq_true rfl) h (fun w7 hle h => ?_) (fun _ _ _ h => kzx_no rfl h)
    have h := h hle
    refine kz_aload_n (M := kt_M463) kX13_loop_c3.2.1 rfl ?_
    refine kz_aload_n (M := kt_M463) kX13_loop_c3.2.2.1 rfl ?_
    refine kz_gfi (M := kt_M463) (c := 12) (o := 0) kX13_loop_c3.2.2.2.1 wf_X13_1165 (.inl rfl) ?_
    refine kz_ic (M := kt_M463) 2 kX13_loop_c3.2.2.2.2.1 rfl ?_
    refine kz_aload_n (M := kt_M463) kX13_loop_c3.2.2.2.2.2.1 rfl ?_
    refine kz_aload_n (M := kt_M463) kX13_loop_c3.2.2.2.2.2.2.1 rfl ?_
    refine kz_gfi (M := kt_M463) (c := 12) (o := 0) kX13_loop_c3.2.2.2.2.2.2.2.1 wf_X13_1165 (.inl rfl) ?_
    refine kz_ic (M := kt_M463) 2 kX13_loop_c4.1 rfl ?_
    refine kz_cv1 (M := kt_M463) (c := 12) (o := 0) (As := [.int (w_i w7 12 0 163), .int 2]) (rest := [.int 2, .int (w_i w7 12 0 163), .ref (w_adr E.2.1 12 0)]) kX13_loop_c4.2.1 wl_X13_1155 wMv_403 rfl (.inl rfl) rfl (Nat.le_trans (Nat.le_of_ble_eq_true rfl) hL) (Nat.le_of_ble_eq_true rfl) (Nat.le_of_ble_eq_true rfl) h (fun v10 w9 hle h => ?_) (fun _ _ _ h => kzx_no rfl h)
    have h := h hle
    refine kz_ic (M := kt_M463) 1 kX13_loop_c4.2.2.1 rfl ?_
    refine kz_iadd (M := kt_M463) kX13_loop_c4.2.2.2.1 ?_
    refine kz_cv0 (M := kt_M463) (c := 12) (o := 0) (As := [.int (w_i w7 12 0 163), .int 2, .int (v10 + 1)]) (rest := []) kX13_loop_c4.2.2.2.2.1 wl_X13_1162 wMv_402 rfl (.inl rfl) rfl (Nat.le_trans (Nat.le_of_ble_eq_true rfl) hL) (Nat.le_of_ble_eq_true rfl) (Nat.le_of_ble_eq_true rfl) h (fun w11 hle h => ?_) (fun _ _ _ h => kzx_no rfl h)
    have h := h hle
    refine kz_aload_n (M := kt_M463) kX13_loop_c4.2.2.2.2.2.1 rfl ?_
    refine kz_aload_n (M := kt_M463) kX13_loop_c4.2.2.2.2.2.2.1 rfl ?_
    refine kz_gfi (M := kt_M463) (c := 12) (o := 0) kX13_loop_c4.2.2.2.2.2.2.2.1 wf_X13_1165 (.inl rfl) ?_
    refine kz_ic (M := kt_M463) 3 kX13_loop_c5.1 rfl ?_
    refine kz_aload_n (M := kt_M463) kX13_loop_c5.2.1 rfl ?_
    refine kz_aload_n (M := kt_M463) kX13_loop_c5.2.2.1 rfl ?_
    refine kz_gfi (M := kt_M463) (c := 12) (o := 0) kX13_loop_c5.2.2.2.1 wf_X13_1165 (.inl rfl) ?_
    refine kz_ic (M := kt_M463) 3 kX13_loop_c5.2.2.2.2.1 rfl ?_
    refine kz_cv1 (M := kt_M463) (c := 12) (o := 0) (As := [.int (w_i w11 12 0 163), .int 3]) (rest := [.int 3, .int (w_i w11 12 0 163), .ref (w_adr E.2.1 12 0)]) kX13_loop_c5.2.2.2.2.2.1 wl_X13_1155 wMv_403 rfl (.inl rfl) rfl (Nat.le_trans (Nat.le_of_ble_eq_true rfl) hL) (Nat.le_of_ble_eq_true rfl) (Nat.le_of_ble_eq_true rfl) h (fun v14 w13 hle h => ?_) (fun _ _ _ h => kzx_no rfl h)
    have h := h hle
    refine kz_ic (M := kt_M463) 1 kX13_loop_c5.2.2.2.2.2.2.1 rfl ?_
    refine kz_isub (M := kt_M463) kX13_loop_c5.2.2.2.2.2.2.2.1 ?_
    refine kz_cv0 (M := kt_M463) (c := 12) (o := 0) (As := [.int (w_i w11 12 0 163), .int 3, .int (v14 - 1)]) (rest := []) kX13_loop_c6.1 wl_X13_1162 wMv_402 rfl (.inl rfl) rfl (Nat.le_trans (Nat.le_of_ble_eq_true rfl) hL) (Nat.le_of_ble_eq_true rfl) (Nat.le_of_ble_eq_true rfl) h (fun w15 hle h => ?_) (fun _ _ _ h => kzx_no rfl h)
    have h := h hle
    refine kz_aload_n (M := kt_M463) kX13_loop_c6.2.1 rfl ?_
    refine kz_ic (M := kt_M463) 0 kX13_loop_c6.2.2.1 rfl ?_
    refine kz_aload_n (M := kt_M463) kX13_loop_c6.2.2.2.1 rfl ?_
    refine kz_gfc (M := kt_M463) (x := 4101) (c := 12) (o := 0) kX13_loop_c6.2.2.2.2.1 wf_X13_196 (.inl rfl) ?_
    refine kz_iload_n (M := kt_M463) kX13_loop_c6.2.2.2.2.2.1 rfl ?_
    refine kz_iald (M := kt_M463) (c := 12) (o := 0) (k := 29) (a := (E.2.1 4101)) kX13_loop_c6.2.2.2.2.2.2.1 ow_12_0_29 oa_12_0_29 ot_0 h (fun h => ?_)
    refine kz_ic (M := kt_M463) 0 kX13_loop_c6.2.2.2.2.2.2.2.1 rfl ?_
    refine kz_ic (M := kt_M463) 0 kX13_loop_c7.1 rfl ?_
    refine kz_cv0 (M := kt_M463) (c := 12) (o := 0) (As := [.int 0, .int (w_a w15 12 0 29 (x1).toNatClampNeg), .int 0, .int 0]) (rest := []) kX13_loop_c7.2.1 wl_X13_1278 wMv_518 rfl (.inl rfl) rfl (Nat.le_trans (Nat.le_of_ble_eq_true rfl) hL) (Nat.le_of_ble_eq_true rfl) (Nat.le_of_ble_eq_true rfl) h (fun w17 hle h => ?_) (fun _ _ _ h => kzx_no rfl h)
    have h := h hle
    exact kz_ret (M := kt_M463) kX13_loop_c7.2.2.1 rfl h
  · skip
    refine kz_aload_n (M := kt_M463) kX13_loop_c0.2.2.2.2.2.2.1 rfl ?_
    refine kz_cv0 (M := kt_M463) (c := 12) (o := 0) (As := []) (rest := []) kX13_loop_c0.2.2.2.2.2.2.2.1 wl_X13_1290 wMv_511 rfl (.inl rfl) rfl (Nat.le_trans (Nat.le_of_ble_eq_true rfl) hL) (Nat.le_of_ble_eq_true rfl) (Nat.le_of_ble_eq_true rfl) h (fun w19 hle h => ?_) (fun _ _ _ h => kzx_no rfl h)
    have h := h hle
    exact kz_ret (M := kt_M463) kX13_loop_c1.1 rfl h
def zL_X13_assign_p232 (E : zE) (L : Nat) (Q : kx_Rs → wS → Prop) (x2 : Int32) (x4 : Int32) (x5 : Int32) (x6 : Int32) (x7 : Int32) (x8 : Int32) (x9 : Int32) (w : wS) : Prop := kzE E L kt_M355 232 [(0, .ref (w_adr E.2.1 12 0)), (2, .int x2), (4, .int x4), (5, .int x5), (6, .int x6), (7, .int x7), (8, .int x8), (9, .int x9)] [] w Q
def zL_X13_assign_p143 (E : zE) (L : Nat) (Q : kx_Rs → wS → Prop) (x2 : Int32) (x4 : Int32) (x5 : Int32) (w : wS) : Prop := kzE E L kt_M355 143 [(0, .ref (w_adr E.2.1 12 0)), (2, .int x2), (4, .int x4), (5, .int x5)] [] w Q
def zL_X13_assign_p117 (E : zE) (L : Nat) (Q : kx_Rs → wS → Prop) (x2 : Int32) (x4 : Int32) (x5 : Int32) (w : wS) : Prop := kzE E L kt_M355 117 [(0, .ref (w_adr E.2.1 12 0)), (2, .int x2), (4, .int x4), (5, .int x5)] [] w Q
def zL_X13_assign_p33 (E : zE) (L : Nat) (Q : kx_Rs → wS → Prop) (x1 : Int32) (x2 : Int32) (x3 : Int32) (x4 : Int32) (w : wS) : Prop := kzE E L kt_M355 33 [(0, .ref (w_adr E.2.1 12 0)), (1, .int x1), (2, .int x2), (3, .int x3), (4, .int x4)] [] w Q
def zb_X13_assign_p264 (E : zE) (L : Nat) (Q : kx_Rs → wS → Prop) (x2 : Int32) (x4 : Int32) (x5 : Int32) (w : wS) : Prop := zL_X13_assign_p143 E L Q x2 x4 (x5 + 1) w
theorem zt_X13_assign_p264 {E : zE} {L : Nat} {Q : kx_Rs → wS → Prop} {x2 : Int32} {x4 : Int32} {x5 : Int32} {w : wS} (hL : 26 ≤ L) (h : zb_X13_assign_p264 E L Q x2 x4 x5 w) : kzE E L kt_M355 264 [(0, .ref (w_adr E.2.1 12 0)), (2, .int x2), (4, .int x4), (5, .int x5)] [] w Q := by
  unfold zb_X13_assign_p264 at h
  refine kz_inc (M := kt_M355) [(0, .ref (w_adr E.2.1 12 0)), (2, .int x2), (4, .int x4)] kX13_assign_c17.2.2.2.2.2.1 rfl (Nat.le_of_ble_eq_true rfl) ⟨⟨rfl, rfl, .inl rfl⟩, ⟨⟨rfl, rfl, .inl rfl⟩, ⟨⟨rfl, rfl, .inr rfl⟩, trivial⟩⟩⟩ rfl ?_
  refine kz_goto (M := kt_M355) kX13_assign_c17.2.2.2.2.2.2.1 (t := 143) rfl ?_
  exact kz_weak [(0, .ref (w_adr E.2.1 12 0)), (2, .int x2), (4, .int x4), (5, .int (x5 + 1))] ⟨rfl, ⟨rfl, ⟨rfl, ⟨rfl, trivial⟩⟩⟩⟩ rfl h
def zb_X13_assign_p232 (E : zE) (L : Nat) (Q : kx_Rs → wS → Prop) (x2 : Int32) (x4 : Int32) (x5 : Int32) (x6 : Int32) (x7 : Int32) (x8 : Int32) (x9 : Int32) (w : wS) : Prop := (if x7 ≤ x9 then zb_X13_assign_p264 E L Q x2 x4 x5 w else (kx_inb (x6 + x9) (w_n w 12 0 111) = true ∧ zw E (L - 22) kt_M369 [.ref (w_adr E.2.1 12 0), .int (x8 + x9), .int (w_a w 12 0 111 ((x6 + x9)).toNatClampNeg)] w (wk0 (fun w1 => wle w w1 → zL_X13_assign_p232 E L Q x2 x4 x5 x6 x7 x8 (x9 + 1) w1) (fun e w => Q (.inr e) w))))
theorem zt_X13_assign_p232 {E : zE} {L : Nat} {Q : kx_Rs → wS → Prop} {x2 : Int32} {x4 : Int32} {x5 : Int32} {x6 : Int32} {x7 : Int32} {x8 : Int32} {x9 : Int32} {w : wS} (hL : 26 ≤ L) (h : zb_X13_assign_p232 E L Q x2 x4 x5 x6 x7 x8 x9 w) : kzE E L kt_M355 232 [(0, .ref (w_adr E.2.1 12 0)), (2, .int x2), (4, .int x4), (5, .int x5), (6, .int x6), (7, .int x7), (8, .int x8), (9, .int x9)] [] w Q := by
  unfold zb_X13_assign_p232 at h
  refine kz_iload (M := kt_M355) kX13_assign_c15.2.2.2.2.2.1 rfl ?_
  refine kz_iload (M := kt_M355) kX13_assign_c15.2.2.2.2.2.2.1 rfl ?_
  refine kz_icmp_ge (M := kt_M355) kX13_assign_c15.2.2.2.2.2.2.2.1 (t := 264) rfl h (fun h => ?_) (fun h => ?_)
  · skip
    exact kz_weak [(0, .ref (w_adr E.2.1 12 0)), (2, .int x2), (4, .int x4), (5, .int x5)] ⟨rfl, ⟨rfl, ⟨rfl, ⟨rfl, trivial⟩⟩⟩⟩ rfl (zt_X13_assign_p264 hL  h)
  · skip
    refine kz_aload_n (M := kt_M355) kX13_assign_c16.1 rfl ?_
    refine kz_iload (M := kt_M355) kX13_assign_c16.2.1 rfl ?_
    refine kz_iload (M := kt_M355) kX13_assign_c16.2.2.1 rfl ?_
    refine kz_iadd (M := kt_M355) kX13_assign_c16.2.2.2.1 ?_
    refine kz_aload_n (M := kt_M355) kX13_assign_c16.2.2.2.2.1 rfl ?_
    refine kz_gfa (M := kt_M355) (c := 12) (o := 0) kX13_assign_c16.2.2.2.2.2.1 wf_X13_350 (.inl rfl) ?_
    refine kz_iload (M := kt_M355) kX13_assign_c16.2.2.2.2.2.2.1 rfl ?_
    refine kz_iload (M := kt_M355) kX13_assign_c16.2.2.2.2.2.2.2.1 rfl ?_
    refine kz_iadd (M := kt_M355) kX13_assign_c17.1 ?_
    refine kz_iald (M := kt_M355) (c := 12) (o := 0) (k := 111) (a := (w_d w 12 0 111)) kX13_assign_c17.2.1 ow_12_0_111 oa_12_0_111 ot_0 h (fun h => ?_)
    refine kz_cv0 (M := kt_M355) (c := 12) (o := 0) (As := [.int (x8 + x9), .int (w_a w 12 0 111 ((x6 + x9)).toNatClampNeg)]) (rest := []) kX13_assign_c17.2.2.1 wl_X13_1367 wMv_369 rfl (.inl rfl) rfl (Nat.le_trans (Nat.le_of_ble_eq_true rfl) hL) (Nat.le_of_ble_eq_true rfl) (Nat.le_of_ble_eq_true rfl) h (fun w1 hle h => ?_) (fun _ _ _ h => kzx_no rfl h)
    have h := h hle
    refine kz_inc (M := kt_M355) [(0, .ref (w_adr E.2.1 12 0)), (2, .int x2), (4, .int x4), (5, .int x5), (6, .int x6), (7, .int x7), (8, .int x8)] kX13_assign_c17.2.2.2.1 rfl (Nat.le_of_ble_eq_true rfl) ⟨⟨rfl, rfl, .inl rfl⟩, ⟨⟨rfl, rfl, .inl rfl⟩, ⟨⟨rfl, rfl, .inl rfl⟩, ⟨⟨rfl, rfl, .inl rfl⟩, ⟨⟨rfl, rfl, .inl rfl⟩, ⟨⟨rfl, rfl, .inl rfl⟩, ⟨⟨rfl, rfl, .inr rfl⟩, trivial⟩⟩⟩⟩⟩⟩⟩ rfl ?_
    refine kz_goto (M := kt_M355) kX13_assign_c17.2.2.2.2.1 (t := 232) rfl ?_
    exact kz_weak [(0, .ref (w_adr E.2.1 12 0)), (2, .int x2), (4, .int x4), (5, .int x5), (6, .int x6), (7, .int x7), (8, .int x8), (9, .int (x9 + 1))] ⟨rfl, ⟨rfl, ⟨rfl, ⟨rfl, ⟨rfl, ⟨rfl, ⟨rfl, ⟨rfl, trivial⟩⟩⟩⟩⟩⟩⟩⟩ rfl h
def zb_X13_assign_p143 (E : zE) (L : Nat) (Q : kx_Rs → wS → Prop) (x2 : Int32) (x4 : Int32) (x5 : Int32) (w : wS) : Prop := (if (x4 - x2) ≤ x5 then Q (.inl none) (ws_i w 12 0 174 x2) else (kx_inb (x2 + x5) (w_n w 12 0 175) = true ∧ (kx_inb (x2 + x5) (w_n w 12 0 176) = true ∧ (kx_inb (x4 + x5) (w_n w 12 0 175) = true ∧ (if 0 ≤ w_a w 12 0 176 ((x2 + x5)).toNatClampNeg then (kx_inb (x4 + x5) (w_n w 12 0 176) = true ∧ (if w_a w 12 0 176 ((x2 + x5)).toNatClampNeg = w_a w 12 0 176 ((x4 + x5)).toNatClampNeg then zL_X13_assign_p232 E L Q x2 x4 x5 (w_a w 12 0 175 ((x2 + x5)).toNatClampNeg) (w_a w 12 0 176 ((x2 + x5)).toNatClampNeg) (w_a w 12 0 175 ((x4 + x5)).toNatClampNeg) 0 w else zw E (L - 21) kt_M408 [.ref (w_adr E.2.1 12 0), .int 9] (ws_i w 12 0 174 x2) (wkr (fun v2 w1 => wle (ws_i w 12 0 174 x2) w1 → (v2 = some (w_adr E.2.1 13 0) ∧ Q (.inr "MeetingHouseModel$Halt") w1)) (fun e w => Q (.inr e) w)))) else zw E (L - 22) kt_M369 [.ref (w_adr E.2.1 12 0), .int (w_a w 12 0 175 ((x4 + x5)).toNatClampNeg), .int (w_a w 12 0 175 ((x2 + x5)).toNatClampNeg)] w (wk0 (fun w3 => wle w w3 → zb_X13_assign_p264 E L Q x2 x4 x5 w3) (fun e w => Q (.inr e) w)))))))
theorem zt_X13_assign_p143 {E : zE} {L : Nat} {Q : kx_Rs → wS → Prop} {x2 : Int32} {x4 : Int32} {x5 : Int32} {w : wS} (hL : 26 ≤ L) (h : zb_X13_assign_p143 E L Q x2 x4 x5 w) : kzE E L kt_M355 143 [(0, .ref (w_adr E.2.1 12 0)), (2, .int x2), (4, .int x4), (5, .int x5)] [] w Q := by
  unfold zb_X13_assign_p143 at h
  refine kz_iload (M := kt_M355) kX13_assign_c9.2.2.2.1 rfl ?_
  refine kz_iload (M := kt_M355) kX13_assign_c9.2.2.2.2.1 rfl ?_
  refine kz_iload_n (M := kt_M355) kX13_assign_c9.2.2.2.2.2.1 rfl ?_
  refine kz_isub (M := kt_M355) kX13_assign_c9.2.2.2.2.2.2.1 ?_
  refine kz_icmp_ge (M := kt_M355) kX13_assign_c9.2.2.2.2.2.2.2.1 (t := 270) rfl h (fun h => ?_) (fun h => ?_)
  · skip
    refine kz_aload_n (M := kt_M355) kX13_assign_c17.2.2.2.2.2.2.2.1 rfl ?_
    refine kz_iload_n (M := kt_M355) kX13_assign_c18.1 rfl ?_
    refine kz_pfi (M := kt_M355) (c := 12) (o := 0) kX13_assign_c18.2.1 wq_X13_1325 (.inl rfl) ?_
    exact kz_ret (M := kt_M355) kX13_assign_c18.2.2.1 rfl h
  · skip
    refine kz_aload_n (M := kt_M355) kX13_assign_c10.1 rfl ?_
    refine kz_gfa (M := kt_M355) (c := 12) (o := 0) kX13_assign_c10.2.1 wf_X13_445 (.inl rfl) ?_
    refine kz_iload_n (M := kt_M355) kX13_assign_c10.2.2.1 rfl ?_
    refine kz_iload (M := kt_M355) kX13_assign_c10.2.2.2.1 rfl ?_
    refine kz_iadd (M := kt_M355) kX13_assign_c10.2.2.2.2.1 ?_
    refine kz_iald (M := kt_M355) (c := 12) (o := 0) (k := 175) (a := (w_d w 12 0 175)) kX13_assign_c10.2.2.2.2.2.1 ow_12_0_175 oa_12_0_175 ot_0 h (fun h => ?_)
    refine kz_sti (M := kt_M355) [(0, .ref (w_adr E.2.1 12 0)), (2, .int x2), (4, .int x4), (5, .int x5)] kX13_assign_c10.2.2.2.2.2.2.1 (Nat.le_of_ble_eq_true rfl) ⟨⟨rfl, rfl, .inl rfl⟩, ⟨⟨rfl, rfl, .inl rfl⟩, ⟨⟨rfl, rfl, .inl rfl⟩, ⟨⟨rfl, rfl, .inr rfl⟩, trivial⟩⟩⟩⟩ rfl ?_
    refine kz_aload_n (M := kt_M355) kX13_assign_c10.2.2.2.2.2.2.2.1 rfl ?_
    refine kz_gfa (M := kt_M355) (c := 12) (o := 0) kX13_assign_c11.1 wf_X13_448 (.inl rfl) ?_
    refine kz_iload_n (M := kt_M355) kX13_assign_c11.2.1 rfl ?_
    refine kz_iload (M := kt_M355) kX13_assign_c11.2.2.1 rfl ?_
    refine kz_iadd (M := kt_M355) kX13_assign_c11.2.2.2.1 ?_
    refine kz_iald (M := kt_M355) (c := 12) (o := 0) (k := 176) (a := (w_d w 12 0 176)) kX13_assign_c11.2.2.2.2.1 ow_12_0_176 oa_12_0_176 ot_0 h (fun h => ?_)
    refine kz_sti (M := kt_M355) [(0, .ref (w_adr E.2.1 12 0)), (2, .int x2), (4, .int x4), (5, .int x5), (6, .int (w_a w 12 0 175 ((x2 + x5)).toNatClampNeg))] kX13_assign_c11.2.2.2.2.2.1 (Nat.le_of_ble_eq_true rfl) ⟨⟨rfl, rfl, .inl rfl⟩, ⟨⟨rfl, rfl, .inl rfl⟩, ⟨⟨rfl, rfl, .inl rfl⟩, ⟨⟨rfl, rfl, .inl rfl⟩, ⟨⟨rfl, rfl, .inr rfl⟩, trivial⟩⟩⟩⟩⟩ rfl ?_
    refine kz_aload_n (M := kt_M355) kX13_assign_c11.2.2.2.2.2.2.1 rfl ?_
    refine kz_gfa (M := kt_M355) (c := 12) (o := 0) kX13_assign_c11.2.2.2.2.2.2.2.1 wf_X13_445 (.inl rfl) ?_
    refine kz_iload (M := kt_M355) kX13_assign_c12.1 rfl ?_
    refine kz_iload (M := kt_M355) kX13_assign_c12.2.1 rfl ?_
    refine kz_iadd (M := kt_M355) kX13_assign_c12.2.2.1 ?_
    refine kz_iald (M := kt_M355) (c := 12) (o := 0) (k := 175) (a := (w_d w 12 0 175)) kX13_assign_c12.2.2.2.1 ow_12_0_175 oa_12_0_175 ot_0 h (fun h => ?_)
    refine kz_sti (M := kt_M355) [(0, .ref (w_adr E.2.1 12 0)), (2, .int x2), (4, .int x4), (5, .int x5), (6, .int (w_a w 12 0 175 ((x2 + x5)).toNatClampNeg)), (7, .int (w_a w 12 0 176 ((x2 + x5)).toNatClampNeg))] kX13_assign_c12.2.2.2.2.1 (Nat.le_of_ble_eq_true rfl) ⟨⟨rfl, rfl, .inl rfl⟩, ⟨⟨rfl, rfl, .inl rfl⟩, ⟨⟨rfl, rfl, .inl rfl⟩, ⟨⟨rfl, rfl, .inl rfl⟩, ⟨⟨rfl, rfl, .inl rfl⟩, ⟨⟨rfl, rfl, .inr rfl⟩, trivial⟩⟩⟩⟩⟩⟩ rfl ?_
    refine kz_iload (M := kt_M355) kX13_assign_c12.2.2.2.2.2.1 rfl ?_
    refine kz_if_ge (M := kt_M355) kX13_assign_c12.2.2.2.2.2.2.1 (t := 202) rfl h (fun h => ?_) (fun h => ?_)
    · skip
      refine kz_iload (M := kt_M355) kX13_assign_c13.2.2.2.2.1 rfl ?_
      refine kz_aload_n (M := kt_M355) kX13_assign_c13.2.2.2.2.2.1 rfl ?_
      refine kz_gfa (M := kt_M355) (c := 12) (o := 0) kX13_assign_c13.2.2.2.2.2.2.1 wf_X13_448 (.inl rfl) ?_
      refine kz_iload (M := kt_M355) kX13_assign_c13.2.2.2.2.2.2.2.1 rfl ?_
      refine kz_iload (M := kt_M355) kX13_assign_c14.1 rfl ?_
      refine kz_iadd (M := kt_M355) kX13_assign_c14.2.1 ?_
      refine kz_iald (M := kt_M355) (c := 12) (o := 0) (k := 176) (a := (w_d w 12 0 176)) kX13_assign_c14.2.2.1 ow_12_0_176 oa_12_0_176 ot_0 h (fun h => ?_)
      refine kz_icmp_eq (M := kt_M355) kX13_assign_c14.2.2.2.1 (t := 229) rfl h (fun h => ?_) (fun h => ?_)
      · skip
        refine kz_ic (M := kt_M355) 0 kX13_assign_c15.2.2.2.1 rfl ?_
        refine kz_sti (M := kt_M355) [(0, .ref (w_adr E.2.1 12 0)), (2, .int x2), (4, .int x4), (5, .int x5), (6, .int (w_a w 12 0 175 ((x2 + x5)).toNatClampNeg)), (7, .int (w_a w 12 0 176 ((x2 + x5)).toNatClampNeg)), (8, .int (w_a w 12 0 175 ((x4 + x5)).toNatClampNeg))] kX13_assign_c15.2.2.2.2.1 (Nat.le_of_ble_eq_true rfl) ⟨⟨rfl, rfl, .inl rfl⟩, ⟨⟨rfl, rfl, .inl rfl⟩, ⟨⟨rfl, rfl, .inl rfl⟩, ⟨⟨rfl, rfl, .inl rfl⟩, ⟨⟨rfl, rfl, .inl rfl⟩, ⟨⟨rfl, rfl, .inl rfl⟩, ⟨⟨rfl, rfl, .inr rfl⟩, trivial⟩⟩⟩⟩⟩⟩⟩ rfl ?_
        exact kz_weak [(0, .ref (w_adr E.2.1 12 0)), (2, .int x2), (4, .int x4), (5, .int x5), (6, .int (w_a w 12 0 175 ((x2 + x5)).toNatClampNeg)), (7, .int (w_a w 12 0 176 ((x2 + x5)).toNatClampNeg)), (8, .int (w_a w 12 0 175 ((x4 + x5)).toNatClampNeg)), (9, .int 0)] ⟨rfl, ⟨rfl, ⟨rfl, ⟨rfl, ⟨rfl, ⟨rfl, ⟨rfl, ⟨rfl, trivial⟩⟩⟩⟩⟩⟩⟩⟩ rfl h
      · skip
        refine kz_aload_n (M := kt_M355) kX13_assign_c14.2.2.2.2.1 rfl ?_
        refine kz_iload_n (M := kt_M355) kX13_assign_c14.2.2.2.2.2.1 rfl ?_
        refine kz_pfi (M := kt_M355) (c := 12) (o := 0) kX13_assign_c14.2.2.2.2.2.2.1 wq_X13_1325 (.inl rfl) ?_
        refine kz_aload_n (M := kt_M355) kX13_assign_c14.2.2.2.2.2.2.2.1 rfl ?_
        refine kz_bi (M := kt_M355) 9 kX13_assign_c15.1 rfl ?_
        refine kz_cvr (M := kt_M355) (c := 12) (o := 0) (As := [.int 9]) (rest := []) kX13_assign_c15.2.1 wl_X13_839 wMv_408 rfl (.inl rfl) rfl (Nat.le_trans (Nat.le_of_ble_eq_true rfl) hL) (Nat.le_of_ble_eq_true rfl) (Nat.le_of_ble_eq_true rfl) h (fun v2 w1 hle h => ?_) (fun _ _ _ h => kzx_no rfl h)
        have h := h hle
        exact kz_throw (M := kt_M355) (c := 13) (o := 0) kX13_assign_c15.2.2.1 rfl (.inl rfl) h (fun h => kzx_no rfl h)
    · skip
      refine kz_aload_n (M := kt_M355) kX13_assign_c12.2.2.2.2.2.2.2.1 rfl ?_
      refine kz_iload (M := kt_M355) kX13_assign_c13.1 rfl ?_
      refine kz_iload (M := kt_M355) kX13_assign_c13.2.1 rfl ?_
      refine kz_cv0 (M := kt_M355) (c := 12) (o := 0) (As := [.int (w_a w 12 0 175 ((x4 + x5)).toNatClampNeg), .int (w_a w 12 0 175 ((x2 + x5)).toNatClampNeg)]) (rest := []) kX13_assign_c13.2.2.1 wl_X13_1367 wMv_369 rfl (.inl rfl) rfl (Nat.le_trans (Nat.le_of_ble_eq_true rfl) hL) (Nat.le_of_ble_eq_true rfl) (Nat.le_of_ble_eq_true rfl) h (fun w3 hle h => ?_) (fun _ _ _ h => kzx_no rfl h)
      have h := h hle
      refine kz_goto (M := kt_M355) kX13_assign_c13.2.2.2.1 (t := 264) rfl ?_
      exact kz_weak [(0, .ref (w_adr E.2.1 12 0)), (2, .int x2), (4, .int x4), (5, .int x5)] ⟨rfl, ⟨rfl, ⟨rfl, ⟨rfl, trivial⟩⟩⟩⟩ rfl (zt_X13_assign_p264 hL  h)
def zb_X13_assign_p117 (E : zE) (L : Nat) (Q : kx_Rs → wS → Prop) (x2 : Int32) (x4 : Int32) (x5 : Int32) (w : wS) : Prop := (if x5 < 0 then zL_X13_assign_p143 E L Q x2 x4 0 w else zw E (L - 22) kt_M557 [.ref (w_adr E.2.1 12 0), .int x5] w (wk0 (fun w1 => wle w w1 → (kx_inb x5 (w_n w1 12 0 32) = true ∧ zL_X13_assign_p117 E L Q x2 x4 (w_a w1 12 0 32 (x5).toNatClampNeg) w1)) (fun e w => Q (.inr e) w)))
theorem zt_X13_assign_p117 {E : zE} {L : Nat} {Q : kx_Rs → wS → Prop} {x2 : Int32} {x4 : Int32} {x5 : Int32} {w : wS} (hL : 26 ≤ L) (h : zb_X13_assign_p117 E L Q x2 x4 x5 w) : kzE E L kt_M355 117 [(0, .ref (w_adr E.2.1 12 0)), (2, .int x2), (4, .int x4), (5, .int x5)] [] w Q := by
  unfold zb_X13_assign_p117 at h
  refine kz_iload (M := kt_M355) kX13_assign_c7.2.2.2.2.2.2.1 rfl ?_
  refine kz_if_lt (M := kt_M355) kX13_assign_c7.2.2.2.2.2.2.2.1 (t := 140) rfl h (fun h => ?_) (fun h => ?_)
  · skip
    refine kz_ic (M := kt_M355) 0 kX13_assign_c9.2.1 rfl ?_
    refine kz_sti (M := kt_M355) [(0, .ref (w_adr E.2.1 12 0)), (2, .int x2), (4, .int x4)] kX13_assign_c9.2.2.1 (Nat.le_of_ble_eq_true rfl) ⟨⟨rfl, rfl, .inl rfl⟩, ⟨⟨rfl, rfl, .inl rfl⟩, ⟨⟨rfl, rfl, .inr rfl⟩, trivial⟩⟩⟩ rfl ?_
    exact kz_weak [(0, .ref (w_adr E.2.1 12 0)), (2, .int x2), (4, .int x4), (5, .int 0)] ⟨rfl, ⟨rfl, ⟨rfl, ⟨rfl, trivial⟩⟩⟩⟩ rfl h
  · skip
    refine kz_aload_n (M := kt_M355) kX13_assign_c8.1 rfl ?_
    refine kz_iload (M := kt_M355) kX13_assign_c8.2.1 rfl ?_
    refine kz_cv0 (M := kt_M355) (c := 12) (o := 0) (As := [.int x5]) (rest := []) kX13_assign_c8.2.2.1 wl_X13_1364 wMv_557 rfl (.inl rfl) rfl (Nat.le_trans (Nat.le_of_ble_eq_true rfl) hL) (Nat.le_of_ble_eq_true rfl) (Nat.le_of_ble_eq_true rfl) h (fun w1 hle h => ?_) (fun _ _ _ h => kzx_no rfl h)
    have h := h hle
    refine kz_aload_n (M := kt_M355) kX13_assign_c8.2.2.2.1 rfl ?_
    refine kz_gfc (M := kt_M355) (x := 4104) (c := 12) (o := 0) kX13_assign_c8.2.2.2.2.1 wf_X13_205 (.inl rfl) ?_
    refine kz_iload (M := kt_M355) kX13_assign_c8.2.2.2.2.2.1 rfl ?_
    refine kz_iald (M := kt_M355) (c := 12) (o := 0) (k := 32) (a := (E.2.1 4104)) kX13_assign_c8.2.2.2.2.2.2.1 ow_12_0_32 oa_12_0_32 ot_0 h (fun h => ?_)
    refine kz_sti (M := kt_M355) [(0, .ref (w_adr E.2.1 12 0)), (2, .int x2), (4, .int x4)] kX13_assign_c8.2.2.2.2.2.2.2.1 (Nat.le_of_ble_eq_true rfl) ⟨⟨rfl, rfl, .inl rfl⟩, ⟨⟨rfl, rfl, .inl rfl⟩, ⟨⟨rfl, rfl, .inr rfl⟩, trivial⟩⟩⟩ rfl ?_
    refine kz_goto (M := kt_M355) kX13_assign_c9.1 (t := 117) rfl ?_
    exact kz_weak [(0, .ref (w_adr E.2.1 12 0)), (2, .int x2), (4, .int x4), (5, .int (w_a w1 12 0 32 (x5).toNatClampNeg))] ⟨rfl, ⟨rfl, ⟨rfl, ⟨rfl, trivial⟩⟩⟩⟩ rfl h
def zb_X13_assign_p91 (E : zE) (L : Nat) (Q : kx_Rs → wS → Prop) (x1 : Int32) (x2 : Int32) (x3 : Int32) (x4 : Int32) (w : wS) : Prop := (kx_inb x4 (w_n w 12 0 32) = true ∧ zL_X13_assign_p33 E L Q x1 x2 x3 (w_a w 12 0 32 (x4).toNatClampNeg) w)
theorem zt_X13_assign_p91 {E : zE} {L : Nat} {Q : kx_Rs → wS → Prop} {x1 : Int32} {x2 : Int32} {x3 : Int32} {x4 : Int32} {w : wS} (hL : 26 ≤ L) (h : zb_X13_assign_p91 E L Q x1 x2 x3 x4 w) : kzE E L kt_M355 91 [(0, .ref (w_adr E.2.1 12 0)), (1, .int x1), (2, .int x2), (3, .int x3), (4, .int x4)] [] w Q := by
  unfold zb_X13_assign_p91 at h
  refine kz_aload_n (M := kt_M355) kX13_assign_c6.1 rfl ?_
  refine kz_gfc (M := kt_M355) (x := 4104) (c := 12) (o := 0) kX13_assign_c6.2.1 wf_X13_205 (.inl rfl) ?_
  refine kz_iload (M := kt_M355) kX13_assign_c6.2.2.1 rfl ?_
  refine kz_iald (M := kt_M355) (c := 12) (o := 0) (k := 32) (a := (E.2.1 4104)) kX13_assign_c6.2.2.2.1 ow_12_0_32 oa_12_0_32 ot_0 h (fun h => ?_)
  refine kz_sti (M := kt_M355) [(0, .ref (w_adr E.2.1 12 0)), (1, .int x1), (2, .int x2), (3, .int x3)] kX13_assign_c6.2.2.2.2.1 (Nat.le_of_ble_eq_true rfl) ⟨⟨rfl, rfl, .inl rfl⟩, ⟨⟨rfl, rfl, .inl rfl⟩, ⟨⟨rfl, rfl, .inl rfl⟩, ⟨⟨rfl, rfl, .inr rfl⟩, trivial⟩⟩⟩⟩ rfl ?_
  refine kz_goto (M := kt_M355) kX13_assign_c6.2.2.2.2.2.1 (t := 33) rfl ?_
  exact kz_weak [(0, .ref (w_adr E.2.1 12 0)), (1, .int x1), (2, .int x2), (3, .int x3), (4, .int (w_a w 12 0 32 (x4).toNatClampNeg))] ⟨rfl, ⟨rfl, ⟨rfl, ⟨rfl, ⟨rfl, trivial⟩⟩⟩⟩⟩ rfl h
def zb_X13_assign_p79 (E : zE) (L : Nat) (Q : kx_Rs → wS → Prop) (x1 : Int32) (x2 : Int32) (x3 : Int32) (x4 : Int32) (w : wS) : Prop := zw E (L - 22) kt_M431 [.ref (w_adr E.2.1 12 0), .int (w_i w 12 0 168), .int (w_i w 12 0 169)] w (wk0 (fun w1 => wle w w1 → zb_X13_assign_p91 E L Q x1 x2 x3 x4 w1) (fun e w => Q (.inr e) w))
theorem zt_X13_assign_p79 {E : zE} {L : Nat} {Q : kx_Rs → wS → Prop} {x1 : Int32} {x2 : Int32} {x3 : Int32} {x4 : Int32} {w : wS} (hL : 26 ≤ L) (h : zb_X13_assign_p79 E L Q x1 x2 x3 x4 w) : kzE E L kt_M355 79 [(0, .ref (w_adr E.2.1 12 0)), (1, .int x1), (2, .int x2), (3, .int x3), (4, .int x4)] [] w Q := by
  unfold zb_X13_assign_p79 at h
  refine kz_aload_n (M := kt_M355) kX13_assign_c5.2.2.1 rfl ?_
  refine kz_aload_n (M := kt_M355) kX13_assign_c5.2.2.2.1 rfl ?_
  refine kz_gfi (M := kt_M355) (c := 12) (o := 0) kX13_assign_c5.2.2.2.2.1 wf_X13_1231 (.inl rfl) ?_
  refine kz_aload_n (M := kt_M355) kX13_assign_c5.2.2.2.2.2.1 rfl ?_
  refine kz_gfi (M := kt_M355) (c := 12) (o := 0) kX13_assign_c5.2.2.2.2.2.2.1 wf_X13_1234 (.inl rfl) ?_
  refine kz_cv0 (M := kt_M355) (c := 12) (o := 0) (As := [.int (w_i w 12 0 168), .int (w_i w 12 0 169)]) (rest := []) kX13_assign_c5.2.2.2.2.2.2.2.1 wl_X13_1355 wMv_431 rfl (.inl rfl) rfl (Nat.le_trans (Nat.le_of_ble_eq_true rfl) hL) (Nat.le_of_ble_eq_true rfl) (Nat.le_of_ble_eq_true rfl) h (fun w1 hle h => ?_) (fun _ _ _ h => kzx_no rfl h)
  have h := h hle
  exact kz_weak [(0, .ref (w_adr E.2.1 12 0)), (1, .int x1), (2, .int x2), (3, .int x3), (4, .int x4)] ⟨rfl, ⟨rfl, ⟨rfl, ⟨rfl, ⟨rfl, trivial⟩⟩⟩⟩⟩ rfl (zt_X13_assign_p91 hL  h)
def zb_X13_assign_p33 (E : zE) (L : Nat) (Q : kx_Rs → wS → Prop) (x1 : Int32) (x2 : Int32) (x3 : Int32) (x4 : Int32) (w : wS) : Prop := (if x4 < 0 then (kx_inb x1 (w_n w 12 0 28) = true ∧ zL_X13_assign_p117 E L Q x2 (w_i w 12 0 174) (w_a w 12 0 28 (x1).toNatClampNeg) w) else zw E (L - 22) kt_M437 [.ref (w_adr E.2.1 12 0), .int x4] w (wk1 (fun v2 w1 => wle w w1 → (if ¬ v2 = 0 then zw E (L - 26) kt_M405 [.ref (w_adr E.2.1 12 0), .int x4] w1 (wk0 (fun w3 => wle w1 w3 → (if ¬ x3 = 0 then zb_X13_assign_p79 E L Q x1 x2 x3 x4 w3 else zw E (L - 24) kt_M542 [.ref (w_adr E.2.1 12 0)] w3 (wk0 (fun w5 => wle w3 w5 → zb_X13_assign_p79 E L Q x1 x2 x3 x4 w5) (fun e w => Q (.inr e) w)))) (fun e w => Q (.inr e) w)) else zw E (L - 25) kt_M404 [.ref (w_adr E.2.1 12 0), .int x4] w1 (wk1 (fun v8 w7 => wle w1 w7 → zw E (L - 22) kt_M431 [.ref (w_adr E.2.1 12 0), .int v8, .int (-1)] w7 (wk0 (fun w9 => wle w7 w9 → zb_X13_assign_p91 E L Q x1 x2 x3 x4 w9) (fun e w => Q (.inr e) w))) (fun e w => Q (.inr e) w)))) (fun e w => Q (.inr e) w)))
theorem zt_X13_assign_p33 {E : zE} {L : Nat} {Q : kx_Rs → wS → Prop} {x1 : Int32} {x2 : Int32} {x3 : Int32} {x4 : Int32} {w : wS} (hL : 26 ≤ L) (h : zb_X13_assign_p33 E L Q x1 x2 x3 x4 w) : kzE E L kt_M355 33 [(0, .ref (w_adr E.2.1 12 0)), (1, .int x1), (2, .int x2), (3, .int x3), (4, .int x4)] [] w Q := by
  unfold zb_X13_assign_p33 at h
  refine kz_iload (M := kt_M355) kX13_assign_c2.2.2.2.2.1 rfl ?_
  refine kz_if_lt (M := kt_M355) kX13_assign_c2.2.2.2.2.2.1 (t := 103) rfl h (fun h => ?_) (fun h => ?_)
  · skip
    refine kz_aload_n (M := kt_M355) kX13_assign_c6.2.2.2.2.2.2.1 rfl ?_
    refine kz_gfi (M := kt_M355) (c := 12) (o := 0) kX13_assign_c6.2.2.2.2.2.2.2.1 wf_X13_1325 (.inl rfl) ?_
    refine kz_sti (M := kt_M355) [(0, .ref (w_adr E.2.1 12 0)), (1, .int x1), (2, .int x2)] kX13_assign_c7.1 (Nat.le_of_ble_eq_true rfl) ⟨⟨rfl, rfl, .inl rfl⟩, ⟨⟨rfl, rfl, .inl rfl⟩, ⟨⟨rfl, rfl, .inl rfl⟩, trivial⟩⟩⟩ rfl ?_
    refine kz_aload_n (M := kt_M355) kX13_assign_c7.2.1 rfl ?_
    refine kz_gfc (M := kt_M355) (x := 4100) (c := 12) (o := 0) kX13_assign_c7.2.2.1 wf_X13_193 (.inl rfl) ?_
    refine kz_iload_n (M := kt_M355) kX13_assign_c7.2.2.2.1 rfl ?_
    refine kz_iald (M := kt_M355) (c := 12) (o := 0) (k := 28) (a := (E.2.1 4100)) kX13_assign_c7.2.2.2.2.1 ow_12_0_28 oa_12_0_28 ot_0 h (fun h => ?_)
    refine kz_sti (M := kt_M355) [(0, .ref (w_adr E.2.1 12 0)), (2, .int x2), (4, .int (w_i w 12 0 174))] kX13_assign_c7.2.2.2.2.2.1 (Nat.le_of_ble_eq_true rfl) ⟨⟨rfl, rfl, .inl rfl⟩, ⟨⟨rfl, rfl, .inl rfl⟩, ⟨⟨rfl, rfl, .inr rfl⟩, trivial⟩⟩⟩ rfl ?_
    exact kz_weak [(0, .ref (w_adr E.2.1 12 0)), (2, .int x2), (4, .int (w_i w 12 0 174)), (5, .int (w_a w 12 0 28 (x1).toNatClampNeg))] ⟨rfl, ⟨rfl, ⟨rfl, ⟨rfl, trivial⟩⟩⟩⟩ rfl h
  · skip
    refine kz_aload_n (M := kt_M355) kX13_assign_c2.2.2.2.2.2.2.1 rfl ?_
    refine kz_iload (M := kt_M355) kX13_assign_c2.2.2.2.2.2.2.2.1 rfl ?_
    refine kz_cv1 (M := kt_M355) (c := 12) (o := 0) (As := [.int x4]) (rest := []) kX13_assign_c3.1 wl_X13_1358 wMv_437 rfl (.inl rfl) rfl (Nat.le_trans (Nat.le_of_ble_eq_true rfl) hL) (Nat.le_of_ble_eq_true rfl) (Nat.le_of_ble_eq_true rfl) h (fun v2 w1 hle h => ?_) (fun _ _ _ h => kzx_no rfl h)
    have h := h hle
    refine kz_if_ne (M := kt_M355) kX13_assign_c3.2.1 (t := 65) rfl h (fun h => ?_) (fun h => ?_)
    · skip
      refine kz_aload_n (M := kt_M355) kX13_assign_c4.2.2.2.1 rfl ?_
      refine kz_iload (M := kt_M355) kX13_assign_c4.2.2.2.2.1 rfl ?_
      refine kz_cv0 (M := kt_M355) (c := 12) (o := 0) (As := [.int x4]) (rest := []) kX13_assign_c4.2.2.2.2.2.1 wl_X13_1225 wMv_405 rfl (.inl rfl) rfl (Nat.le_trans (Nat.le_of_ble_eq_true rfl) hL) (Nat.le_of_ble_eq_true rfl) (Nat.le_of_ble_eq_true rfl) h (fun w3 hle h => ?_) (fun _ _ _ h => kzx_no rfl h)
      have h := h hle
      refine kz_iload_n (M := kt_M355) kX13_assign_c4.2.2.2.2.2.2.1 rfl ?_
      refine kz_if_ne (M := kt_M355) kX13_assign_c4.2.2.2.2.2.2.2.1 (t := 79) rfl h (fun h => ?_) (fun h => ?_)
      · skip
        exact kz_weak [(0, .ref (w_adr E.2.1 12 0)), (1, .int x1), (2, .int x2), (3, .int x3), (4, .int x4)] ⟨rfl, ⟨rfl, ⟨rfl, ⟨rfl, ⟨rfl, trivial⟩⟩⟩⟩⟩ rfl (zt_X13_assign_p79 hL  h)
      · skip
        refine kz_aload_n (M := kt_M355) kX13_assign_c5.1 rfl ?_
        refine kz_cv0 (M := kt_M355) (c := 12) (o := 0) (As := []) (rest := []) kX13_assign_c5.2.1 wl_X13_1361 wMv_542 rfl (.inl rfl) rfl (Nat.le_trans (Nat.le_of_ble_eq_true rfl) hL) (Nat.le_of_ble_eq_true rfl) (Nat.le_of_ble_eq_true rfl) h (fun w5 hle h => ?_) (fun _ _ _ h => kzx_no rfl h)
        have h := h hle
        exact kz_weak [(0, .ref (w_adr E.2.1 12 0)), (1, .int x1), (2, .int x2), (3, .int x3), (4, .int x4)] ⟨rfl, ⟨rfl, ⟨rfl, ⟨rfl, ⟨rfl, trivial⟩⟩⟩⟩⟩ rfl (zt_X13_assign_p79 hL  h)
    · skip
      refine kz_aload_n (M := kt_M355) kX13_assign_c3.2.2.1 rfl ?_
      refine kz_iload (M := kt_M355) kX13_assign_c3.2.2.2.1 rfl ?_
      refine kz_cv1 (M := kt_M355) (c := 12) (o := 0) (As := [.int x4]) (rest := []) kX13_assign_c3.2.2.2.2.1 wl_X13_1207 wMv_404 rfl (.inl rfl) rfl (Nat.le_trans (Nat.le_of_ble_eq_true rfl) hL) (Nat.le_of_ble_eq_true rfl) (Nat.le_of_ble_eq_true rfl) h (fun v8 w7 hle h => ?_) (fun _ _ _ h => kzx_no rfl h)
      have h := h hle
      refine kz_sti (M := kt_M355) [(0, .ref (w_adr E.2.1 12 0)), (1, .int x1), (2, .int x2), (3, .int x3), (4, .int x4)] kX13_assign_c3.2.2.2.2.2.1 (Nat.le_of_ble_eq_true rfl) ⟨⟨rfl, rfl, .inl rfl⟩, ⟨⟨rfl, rfl, .inl rfl⟩, ⟨⟨rfl, rfl, .inl rfl⟩, ⟨⟨rfl, rfl, .inl rfl⟩, ⟨⟨rfl, rfl, .inr rfl⟩, trivial⟩⟩⟩⟩⟩ rfl ?_
      refine kz_aload_n (M := kt_M355) kX13_assign_c3.2.2.2.2.2.2.1 rfl ?_
      refine kz_iload (M := kt_M355) kX13_assign_c3.2.2.2.2.2.2.2.1 rfl ?_
      refine kz_ic (M := kt_M355) (-1) kX13_assign_c4.1 rfl ?_
      refine kz_cv0 (M := kt_M355) (c := 12) (o := 0) (As := [.int v8, .int (-1)]) (rest := []) kX13_assign_c4.2.1 wl_X13_1355 wMv_431 rfl (.inl rfl) rfl (Nat.le_trans (Nat.le_of_ble_eq_true rfl) hL) (Nat.le_of_ble_eq_true rfl) (Nat.le_of_ble_eq_true rfl) h (fun w9 hle h => ?_) (fun _ _ _ h => kzx_no rfl h)
      have h := h hle
      refine kz_goto (M := kt_M355) kX13_assign_c4.2.2.1 (t := 91) rfl ?_
      exact kz_weak [(0, .ref (w_adr E.2.1 12 0)), (1, .int x1), (2, .int x2), (3, .int x3), (4, .int x4)] ⟨rfl, ⟨rfl, ⟨rfl, ⟨rfl, ⟨rfl, trivial⟩⟩⟩⟩⟩ rfl (zt_X13_assign_p91 hL  h)
def zb_X13_assign_p24 (E : zE) (L : Nat) (Q : kx_Rs → wS → Prop) (x1 : Int32) (x2 : Int32) (y0 : Int32) (w : wS) : Prop := (kx_inb x1 (w_n w 12 0 29) = true ∧ zL_X13_assign_p33 E L Q x1 x2 y0 (w_a w 12 0 29 (x1).toNatClampNeg) w)
theorem zt_X13_assign_p24 {E : zE} {L : Nat} {Q : kx_Rs → wS → Prop} {x1 : Int32} {x2 : Int32} {y0 : Int32} {w : wS} (hL : 26 ≤ L) (h : zb_X13_assign_p24 E L Q x1 x2 y0 w) : kzE E L kt_M355 24 [(0, .ref (w_adr E.2.1 12 0)), (1, .int x1), (2, .int x2)] [.int y0] w Q := by
  unfold zb_X13_assign_p24 at h
  refine kz_sti_n (M := kt_M355) [(0, .ref (w_adr E.2.1 12 0)), (1, .int x1), (2, .int x2)] kX13_assign_c1.2.2.2.2.2.2.1 (Nat.le_of_ble_eq_true rfl) ⟨⟨rfl, rfl, .inl rfl⟩, ⟨⟨rfl, rfl, .inl rfl⟩, ⟨⟨rfl, rfl, .inr rfl⟩, trivial⟩⟩⟩ rfl ?_
  refine kz_aload_n (M := kt_M355) kX13_assign_c1.2.2.2.2.2.2.2.1 rfl ?_
  refine kz_gfc (M := kt_M355) (x := 4101) (c := 12) (o := 0) kX13_assign_c2.1 wf_X13_196 (.inl rfl) ?_
  refine kz_iload_n (M := kt_M355) kX13_assign_c2.2.1 rfl ?_
  refine kz_iald (M := kt_M355) (c := 12) (o := 0) (k := 29) (a := (E.2.1 4101)) kX13_assign_c2.2.2.1 ow_12_0_29 oa_12_0_29 ot_0 h (fun h => ?_)
  refine kz_sti (M := kt_M355) [(0, .ref (w_adr E.2.1 12 0)), (1, .int x1), (2, .int x2), (3, .int y0)] kX13_assign_c2.2.2.2.1 (Nat.le_of_ble_eq_true rfl) ⟨⟨rfl, rfl, .inl rfl⟩, ⟨⟨rfl, rfl, .inl rfl⟩, ⟨⟨rfl, rfl, .inl rfl⟩, ⟨⟨rfl, rfl, .inr rfl⟩, trivial⟩⟩⟩⟩ rfl ?_
  exact kz_weak [(0, .ref (w_adr E.2.1 12 0)), (1, .int x1), (2, .int x2), (3, .int y0), (4, .int (w_a w 12 0 29 (x1).toNatClampNeg))] ⟨rfl, ⟨rfl, ⟨rfl, ⟨rfl, ⟨rfl, trivial⟩⟩⟩⟩⟩ rfl h
def zb_X13_assign_p0 (E : zE) (L : Nat) (Q : kx_Rs → wS → Prop) (x1 : Int32) (w : wS) : Prop := (kx_inb x1 (w_n w 12 0 28) = true ∧ (kx_inb (w_a w 12 0 28 (x1).toNatClampNeg) (w_n w 12 0 32) = true ∧ (if 0 ≤ w_a w 12 0 32 (w_a w 12 0 28 (x1).toNatClampNeg).toNatClampNeg then zb_X13_assign_p24 E L Q x1 (w_i w 12 0 174) 0 w else zb_X13_assign_p24 E L Q x1 (w_i w 12 0 174) 1 w)))
theorem zt_X13_assign_p0 {E : zE} {L : Nat} {Q : kx_Rs → wS → Prop} {x1 : Int32} {w : wS} (hL : 26 ≤ L) (h : zb_X13_assign_p0 E L Q x1 w) : kzE E L kt_M355 0 [(0, .ref (w_adr E.2.1 12 0)), (1, .int x1)] [] w Q := by
  unfold zb_X13_assign_p0 at h
  refine kz_aload_n (M := kt_M355) kX13_assign_c0.1 rfl ?_
  refine kz_gfi (M := kt_M355) (c := 12) (o := 0) kX13_assign_c0.2.1 wf_X13_1325 (.inl rfl) ?_
  refine kz_sti_n (M := kt_M355) [(0, .ref (w_adr E.2.1 12 0)), (1, .int x1)] kX13_assign_c0.2.2.1 (Nat.le_of_ble_eq_true rfl) ⟨⟨rfl, rfl, .inl rfl⟩, ⟨⟨rfl, rfl, .inr rfl⟩, trivial⟩⟩ rfl ?_
  refine kz_aload_n (M := kt_M355) kX13_assign_c0.2.2.2.1 rfl ?_
  refine kz_gfc (M := kt_M355) (x := 4104) (c := 12) (o := 0) kX13_assign_c0.2.2.2.2.1 wf_X13_205 (.inl rfl) ?_
  refine kz_aload_n (M := kt_M355) kX13_assign_c0.2.2.2.2.2.1 rfl ?_
  refine kz_gfc (M := kt_M355) (x := 4100) (c := 12) (o := 0) kX13_assign_c0.2.2.2.2.2.2.1 wf_X13_193 (.inl rfl) ?_
  refine kz_iload_n (M := kt_M355) kX13_assign_c0.2.2.2.2.2.2.2.1 rfl ?_
  refine kz_iald (M := kt_M355) (c := 12) (o := 0) (k := 28) (a := (E.2.1 4100)) kX13_assign_c1.1 ow_12_0_28 oa_12_0_28 ot_0 h (fun h => ?_)
  refine kz_iald (M := kt_M355) (c := 12) (o := 0) (k := 32) (a := (E.2.1 4104)) kX13_assign_c1.2.1 ow_12_0_32 oa_12_0_32 ot_0 h (fun h => ?_)
  refine kz_if_ge (M := kt_M355) kX13_assign_c1.2.2.1 (t := 23) rfl h (fun h => ?_) (fun h => ?_)
  · skip
    refine kz_ic (M := kt_M355) 0 kX13_assign_c1.2.2.2.2.2.1 rfl ?_
    exact kz_weak [(0, .ref (w_adr E.2.1 12 0)), (1, .int x1), (2, .int (w_i w 12 0 174))] ⟨rfl, ⟨rfl, ⟨rfl, trivial⟩⟩⟩ rfl (zt_X13_assign_p24 hL  h)
  · skip
    refine kz_ic (M := kt_M355) 1 kX13_assign_c1.2.2.2.1 rfl ?_
    refine kz_goto (M := kt_M355) kX13_assign_c1.2.2.2.2.1 (t := 24) rfl ?_
    exact kz_weak [(0, .ref (w_adr E.2.1 12 0)), (1, .int x1), (2, .int (w_i w 12 0 174))] ⟨rfl, ⟨rfl, ⟨rfl, trivial⟩⟩⟩ rfl (zt_X13_assign_p24 hL  h)
def zL_X13_isArray_p2 (E : zE) (L : Nat) (Q : kx_Rs → wS → Prop) (x2 : Int32) (w : wS) : Prop := kzE E L kt_M437 2 [(0, .ref (w_adr E.2.1 12 0)), (2, .int x2)] [] w Q
def zb_X13_isArray_p87 (E : zE) (L : Nat) (Q : kx_Rs → wS → Prop) (y0 : Int32) (w : wS) : Prop := ((y0 = 0 ∨ y0 = 1) ∧ Q (.inl (some (.int y0))) w)
theorem zt_X13_isArray_p87 {E : zE} {L : Nat} {Q : kx_Rs → wS → Prop} {y0 : Int32} {w : wS} (hL : 19 ≤ L) (h : zb_X13_isArray_p87 E L Q y0 w) : kzE E L kt_M437 87 [(0, .ref (w_adr E.2.1 12 0))] [.int y0] w Q := by
  unfold zb_X13_isArray_p87 at h
  exact kz_iretz (M := kt_M437) kX13_isArray_c6.2.2.2.1 rfl h.1 h.2
def zb_X13_isArray_p86 (E : zE) (L : Nat) (Q : kx_Rs → wS → Prop) (w : wS) : Prop := zb_X13_isArray_p87 E L Q 0 w
theorem zt_X13_isArray_p86 {E : zE} {L : Nat} {Q : kx_Rs → wS → Prop} {w : wS} (hL : 19 ≤ L) (h : zb_X13_isArray_p86 E L Q  w) : kzE E L kt_M437 86 [(0, .ref (w_adr E.2.1 12 0))] [] w Q := by
  unfold zb_X13_isArray_p86 at h
  refine kz_ic (M := kt_M437) 0 kX13_isArray_c6.2.2.1 rfl ?_
  exact kz_weak [(0, .ref (w_adr E.2.1 12 0))] ⟨rfl, trivial⟩ rfl (zt_X13_isArray_p87 hL  h)
def zb_X13_isArray_p45 (E : zE) (L : Nat) (Q : kx_Rs → wS → Prop) (w : wS) : Prop := Q (.inl (some (.int 1))) w
theorem zt_X13_isArray_p45 {E : zE} {L : Nat} {Q : kx_Rs → wS → Prop} {w : wS} (hL : 19 ≤ L) (h : zb_X13_isArray_p45 E L Q  w) : kzE E L kt_M437 45 [(0, .ref (w_adr E.2.1 12 0))] [] w Q := by
  unfold zb_X13_isArray_p45 at h
  refine kz_ic (M := kt_M437) 1 kX13_isArray_c3.2.2.1 rfl ?_
  exact kz_iretz (M := kt_M437) kX13_isArray_c3.2.2.2.1 rfl (by decide) h
def zb_X13_isArray_p2 (E : zE) (L : Nat) (Q : kx_Rs → wS → Prop) (x2 : Int32) (w : wS) : Prop := (kx_inb x2 (w_n w 12 0 26) = true ∧ (if ¬ w_a w 12 0 26 (x2).toNatClampNeg = 58 then (kx_inb x2 (w_n w 12 0 26) = true ∧ (if w_a w 12 0 26 (x2).toNatClampNeg = 52 then zb_X13_isArray_p45 E L Q w else (kx_inb x2 (w_n w 12 0 26) = true ∧ (if ¬ w_a w 12 0 26 (x2).toNatClampNeg = 59 then (kx_inb x2 (w_n w 12 0 26) = true ∧ (if ¬ w_a w 12 0 26 (x2).toNatClampNeg = 60 then zb_X13_isArray_p86 E L Q w else (kx_inb x2 (w_n w 12 0 28) = true ∧ (if 0 ≤ w_a w 12 0 28 (x2).toNatClampNeg then zb_X13_isArray_p86 E L Q w else (kx_inb x2 (w_n w 12 0 31) = true ∧ (kx_inb (w_a w 12 0 31 (x2).toNatClampNeg) (w_n w 12 0 48) = true ∧ (if w_a w 12 0 48 (w_a w 12 0 31 (x2).toNatClampNeg).toNatClampNeg = (-1) then zb_X13_isArray_p86 E L Q w else zb_X13_isArray_p87 E L Q 1 w))))))) else zb_X13_isArray_p45 E L Q w)))) else (kx_inb x2 (w_n w 12 0 28) = true ∧ zL_X13_isArray_p2 E L Q (w_a w 12 0 28 (x2).toNatClampNeg) w)))
theorem zt_X13_isArray_p2 {E : zE} {L : Nat} {Q : kx_Rs → wS → Prop} {x2 : Int32} {w : wS} (hL : 19 ≤ L) (h : zb_X13_isArray_p2 E L Q x2 w) : kzE E L kt_M437 2 [(0, .ref (w_adr E.2.1 12 0)), (2, .int x2)] [] w Q := by
  unfold zb_X13_isArray_p2 at h
  refine kz_aload_n (M := kt_M437) kX13_isArray_c0.2.2.1 rfl ?_
  refine kz_gfc (M := kt_M437) (x := 4098) (c := 12) (o := 0) kX13_isArray_c0.2.2.2.1 wf_X13_187 (.inl rfl) ?_
  refine kz_iload_n (M := kt_M437) kX13_isArray_c0.2.2.2.2.1 rfl ?_
  refine kz_iald (M := kt_M437) (c := 12) (o := 0) (k := 26) (a := (E.2.1 4098)) kX13_isArray_c0.2.2.2.2.2.1 ow_12_0_26 oa_12_0_26 ot_0 h (fun h => ?_)
  refine kz_bi (M := kt_M437) 58 kX13_isArray_c0.2.2.2.2.2.2.1 rfl ?_
  refine kz_icmp_ne (M := kt_M437) kX13_isArray_c0.2.2.2.2.2.2.2.1 (t := 23) rfl h (fun h => ?_) (fun h => ?_)
  · skip
    refine kz_aload_n (M := kt_M437) kX13_isArray_c1.2.2.2.2.2.2.1 rfl ?_
    refine kz_gfc (M := kt_M437) (x := 4098) (c := 12) (o := 0) kX13_isArray_c1.2.2.2.2.2.2.2.1 wf_X13_187 (.inl rfl) ?_
    refine kz_iload_n (M := kt_M437) kX13_isArray_c2.1 rfl ?_
    refine kz_iald (M := kt_M437) (c := 12) (o := 0) (k := 26) (a := (E.2.1 4098)) kX13_isArray_c2.2.1 ow_12_0_26 oa_12_0_26 ot_0 h (fun h => ?_)
    refine kz_bi (M := kt_M437) 52 kX13_isArray_c2.2.2.1 rfl ?_
    refine kz_icmp_eq (M := kt_M437) kX13_isArray_c2.2.2.2.1 (t := 45) rfl h (fun h => ?_) (fun h => ?_)
    · skip
      exact kz_weak [(0, .ref (w_adr E.2.1 12 0))] ⟨rfl, trivial⟩ rfl (zt_X13_isArray_p45 hL  h)
    · skip
      refine kz_aload_n (M := kt_M437) kX13_isArray_c2.2.2.2.2.1 rfl ?_
      refine kz_gfc (M := kt_M437) (x := 4098) (c := 12) (o := 0) kX13_isArray_c2.2.2.2.2.2.1 wf_X13_187 (.inl rfl) ?_
      refine kz_iload_n (M := kt_M437) kX13_isArray_c2.2.2.2.2.2.2.1 rfl ?_
      refine kz_iald (M := kt_M437) (c := 12) (o := 0) (k := 26) (a := (E.2.1 4098)) kX13_isArray_c2.2.2.2.2.2.2.2.1 ow_12_0_26 oa_12_0_26 ot_0 h (fun h => ?_)
      refine kz_bi (M := kt_M437) 59 kX13_isArray_c3.1 rfl ?_
      refine kz_icmp_ne (M := kt_M437) kX13_isArray_c3.2.1 (t := 47) rfl h (fun h => ?_) (fun h => ?_)
      · skip
        refine kz_aload_n (M := kt_M437) kX13_isArray_c3.2.2.2.2.1 rfl ?_
        refine kz_gfc (M := kt_M437) (x := 4098) (c := 12) (o := 0) kX13_isArray_c3.2.2.2.2.2.1 wf_X13_187 (.inl rfl) ?_
        refine kz_iload_n (M := kt_M437) kX13_isArray_c3.2.2.2.2.2.2.1 rfl ?_
        refine kz_iald (M := kt_M437) (c := 12) (o := 0) (k := 26) (a := (E.2.1 4098)) kX13_isArray_c3.2.2.2.2.2.2.2.1 ow_12_0_26 oa_12_0_26 ot_0 h (fun h => ?_)
        refine kz_bi (M := kt_M437) 60 kX13_isArray_c4.1 rfl ?_
        refine kz_icmp_ne (M := kt_M437) kX13_isArray_c4.2.1 (t := 86) rfl h (fun h => ?_) (fun h => ?_)
        · skip
          exact kz_weak [(0, .ref (w_adr E.2.1 12 0))] ⟨rfl, trivial⟩ rfl (zt_X13_isArray_p86 hL  h)
        · skip
          refine kz_aload_n (M := kt_M437) kX13_isArray_c4.2.2.1 rfl ?_
          refine kz_gfc (M := kt_M437) (x := 4100) (c := 12) (o := 0) kX13_isArray_c4.2.2.2.1 wf_X13_193 (.inl rfl) ?_
          refine kz_iload_n (M := kt_M437) kX13_isArray_c4.2.2.2.2.1 rfl ?_
          refine kz_iald (M := kt_M437) (c := 12) (o := 0) (k := 28) (a := (E.2.1 4100)) kX13_isArray_c4.2.2.2.2.2.1 ow_12_0_28 oa_12_0_28 ot_0 h (fun h => ?_)
          refine kz_if_ge (M := kt_M437) kX13_isArray_c4.2.2.2.2.2.2.1 (t := 86) rfl h (fun h => ?_) (fun h => ?_)
          · skip
            exact kz_weak [(0, .ref (w_adr E.2.1 12 0))] ⟨rfl, trivial⟩ rfl (zt_X13_isArray_p86 hL  h)
          · skip
            refine kz_aload_n (M := kt_M437) kX13_isArray_c4.2.2.2.2.2.2.2.1 rfl ?_
            refine kz_gfc (M := kt_M437) (x := 4120) (c := 12) (o := 0) kX13_isArray_c5.1 wf_X13_229 (.inl rfl) ?_
            refine kz_aload_n (M := kt_M437) kX13_isArray_c5.2.1 rfl ?_
            refine kz_gfc (M := kt_M437) (x := 4103) (c := 12) (o := 0) kX13_isArray_c5.2.2.1 wf_X13_202 (.inl rfl) ?_
            refine kz_iload_n (M := kt_M437) kX13_isArray_c5.2.2.2.1 rfl ?_
            refine kz_iald (M := kt_M437) (c := 12) (o := 0) (k := 31) (a := (E.2.1 4103)) kX13_isArray_c5.2.2.2.2.1 ow_12_0_31 oa_12_0_31 ot_0 h (fun h => ?_)
            refine kz_iald (M := kt_M437) (c := 12) (o := 0) (k := 48) (a := (E.2.1 4120)) kX13_isArray_c5.2.2.2.2.2.1 ow_12_0_48 oa_12_0_48 ot_0 h (fun h => ?_)
            refine kz_ic (M := kt_M437) (-1) kX13_isArray_c5.2.2.2.2.2.2.1 rfl ?_
            refine kz_icmp_eq (M := kt_M437) kX13_isArray_c5.2.2.2.2.2.2.2.1 (t := 86) rfl h (fun h => ?_) (fun h => ?_)
            · skip
              exact kz_weak [(0, .ref (w_adr E.2.1 12 0))] ⟨rfl, trivial⟩ rfl (zt_X13_isArray_p86 hL  h)
            · skip
              refine kz_ic (M := kt_M437) 1 kX13_isArray_c6.1 rfl ?_
              refine kz_goto (M := kt_M437) kX13_isArray_c6.2.1 (t := 87) rfl ?_
              exact kz_weak [(0, .ref (w_adr E.2.1 12 0))] ⟨rfl, trivial⟩ rfl (zt_X13_isArray_p87 hL  h)
      · skip
        exact kz_weak [(0, .ref (w_adr E.2.1 12 0))] ⟨rfl, trivial⟩ rfl (zt_X13_isArray_p45 hL  h)
  · skip
    refine kz_aload_n (M := kt_M437) kX13_isArray_c1.1 rfl ?_
    refine kz_gfc (M := kt_M437) (x := 4100) (c := 12) (o := 0) kX13_isArray_c1.2.1 wf_X13_193 (.inl rfl) ?_
    refine kz_iload_n (M := kt_M437) kX13_isArray_c1.2.2.1 rfl ?_
    refine kz_iald (M := kt_M437) (c := 12) (o := 0) (k := 28) (a := (E.2.1 4100)) kX13_isArray_c1.2.2.2.1 ow_12_0_28 oa_12_0_28 ot_0 h (fun h => ?_)
    refine kz_sti_n (M := kt_M437) [(0, .ref (w_adr E.2.1 12 0))] kX13_isArray_c1.2.2.2.2.1 (Nat.le_of_ble_eq_true rfl) ⟨⟨rfl, rfl, .inl rfl⟩, trivial⟩ rfl ?_
    refine kz_goto (M := kt_M437) kX13_isArray_c1.2.2.2.2.2.1 (t := 2) rfl ?_
    exact kz_weak [(0, .ref (w_adr E.2.1 12 0)), (2, .int (w_a w 12 0 28 (x2).toNatClampNeg))] ⟨rfl, ⟨rfl, trivial⟩⟩ rfl h
def zb_X13_isArray_p0 (E : zE) (L : Nat) (Q : kx_Rs → wS → Prop) (x1 : Int32) (w : wS) : Prop := zL_X13_isArray_p2 E L Q x1 w
theorem zt_X13_isArray_p0 {E : zE} {L : Nat} {Q : kx_Rs → wS → Prop} {x1 : Int32} {w : wS} (hL : 19 ≤ L) (h : zb_X13_isArray_p0 E L Q x1 w) : kzE E L kt_M437 0 [(0, .ref (w_adr E.2.1 12 0)), (1, .int x1)] [] w Q := by
  unfold zb_X13_isArray_p0 at h
  refine kz_iload_n (M := kt_M437) kX13_isArray_c0.1 rfl ?_
  refine kz_sti_n (M := kt_M437) [(0, .ref (w_adr E.2.1 12 0))] kX13_isArray_c0.2.1 (Nat.le_of_ble_eq_true rfl) ⟨⟨rfl, rfl, .inl rfl⟩, trivial⟩ rfl ?_
  exact kz_weak [(0, .ref (w_adr E.2.1 12 0)), (2, .int x1)] ⟨rfl, ⟨rfl, trivial⟩⟩ rfl h
def zL_X13_snapshot_p25 (E : zE) (L : Nat) (Q : kx_Rs → wS → Prop) (x1 : Int32) (x2 : Int32) (x3 : Int32) (x4 : Int32) (w : wS) : Prop := kzE E L kt_M542 25 [(0, .ref (w_adr E.2.1 12 0)), (1, .int x1), (2, .int x2), (3, .int x3), (4, .int x4)] [] w Q
def zb_X13_snapshot_p25 (E : zE) (L : Nat) (Q : kx_Rs → wS → Prop) (x1 : Int32) (x2 : Int32) (x3 : Int32) (x4 : Int32) (w : wS) : Prop := (if x2 ≤ x4 then Q (.inl none) (ws_i w 12 0 168 x3) else (kx_inb (x1 + x4) (w_n w 12 0 111) = true ∧ (kx_inb (x3 + x4) (w_n w 12 0 111) = true ∧ zL_X13_snapshot_p25 E L Q x1 x2 x3 (x4 + 1) (ws_a w 12 0 111 ((x3 + x4)).toNatClampNeg (w_a w 12 0 111 ((x1 + x4)).toNatClampNeg)))))
theorem zt_X13_snapshot_p25 {E : zE} {L : Nat} {Q : kx_Rs → wS → Prop} {x1 : Int32} {x2 : Int32} {x3 : Int32} {x4 : Int32} {w : wS} (hL : 23 ≤ L) (h : zb_X13_snapshot_p25 E L Q x1 x2 x3 x4 w) : kzE E L kt_M542 25 [(0, .ref (w_adr E.2.1 12 0)), (1, .int x1), (2, .int x2), (3, .int x3), (4, .int x4)] [] w Q := by
  unfold zb_X13_snapshot_p25 at h
  refine kz_iload (M := kt_M542) kX13_snapshot_c2.1 rfl ?_
  refine kz_iload_n (M := kt_M542) kX13_snapshot_c2.2.1 rfl ?_
  refine kz_icmp_ge (M := kt_M542) kX13_snapshot_c2.2.2.1 (t := 55) rfl h (fun h => ?_) (fun h => ?_)
  · skip
    refine kz_aload_n (M := kt_M542) kX13_snapshot_c4.2.1 rfl ?_
    refine kz_iload_n (M := kt_M542) kX13_snapshot_c4.2.2.1 rfl ?_
    refine kz_pfi (M := kt_M542) (c := 12) (o := 0) kX13_snapshot_c4.2.2.2.1 wq_X13_1231 (.inl rfl) ?_
    exact kz_ret (M := kt_M542) kX13_snapshot_c4.2.2.2.2.1 rfl h
  · skip
    refine kz_aload_n (M := kt_M542) kX13_snapshot_c2.2.2.2.1 rfl ?_
    refine kz_gfa (M := kt_M542) (c := 12) (o := 0) kX13_snapshot_c2.2.2.2.2.1 wf_X13_350 (.inl rfl) ?_
    refine kz_iload_n (M := kt_M542) kX13_snapshot_c2.2.2.2.2.2.1 rfl ?_
    refine kz_iload (M := kt_M542) kX13_snapshot_c2.2.2.2.2.2.2.1 rfl ?_
    refine kz_iadd (M := kt_M542) kX13_snapshot_c2.2.2.2.2.2.2.2.1 ?_
    refine kz_aload_n (M := kt_M542) kX13_snapshot_c3.1 rfl ?_
    refine kz_gfa (M := kt_M542) (c := 12) (o := 0) kX13_snapshot_c3.2.1 wf_X13_350 (.inl rfl) ?_
    refine kz_iload_n (M := kt_M542) kX13_snapshot_c3.2.2.1 rfl ?_
    refine kz_iload (M := kt_M542) kX13_snapshot_c3.2.2.2.1 rfl ?_
    refine kz_iadd (M := kt_M542) kX13_snapshot_c3.2.2.2.2.1 ?_
    refine kz_iald (M := kt_M542) (c := 12) (o := 0) (k := 111) (a := (w_d w 12 0 111)) kX13_snapshot_c3.2.2.2.2.2.1 ow_12_0_111 oa_12_0_111 ot_0 h (fun h => ?_)
    refine kz_iast (M := kt_M542) (c := 12) (o := 0) (k := 111) (a := (w_d w 12 0 111)) kX13_snapshot_c3.2.2.2.2.2.2.1 ow_12_0_111 oa_12_0_111 ot_0 h (fun h => ?_)
    refine kz_inc (M := kt_M542) [(0, .ref (w_adr E.2.1 12 0)), (1, .int x1), (2, .int x2), (3, .int x3)] kX13_snapshot_c3.2.2.2.2.2.2.2.1 rfl (Nat.le_of_ble_eq_true rfl) ⟨⟨rfl, rfl, .inl rfl⟩, ⟨⟨rfl, rfl, .inl rfl⟩, ⟨⟨rfl, rfl, .inl rfl⟩, ⟨⟨rfl, rfl, .inr rfl⟩, trivial⟩⟩⟩⟩ rfl ?_
    refine kz_goto (M := kt_M542) kX13_snapshot_c4.1 (t := 25) rfl ?_
    exact kz_weak [(0, .ref (w_adr E.2.1 12 0)), (1, .int x1), (2, .int x2), (3, .int x3), (4, .int (x4 + 1))] ⟨rfl, ⟨rfl, ⟨rfl, ⟨rfl, ⟨rfl, trivial⟩⟩⟩⟩⟩ rfl h
def zb_X13_snapshot_p0 (E : zE) (L : Nat) (Q : kx_Rs → wS → Prop) (w : wS) : Prop := zw E (L - 23) kt_M419 [.ref (w_adr E.2.1 12 0), .int (w_i w 12 0 169)] w (wk1 (fun v2 w1 => wle w w1 → zw E (L - 22) kt_M452 [.ref (w_adr E.2.1 12 0), .int v2, .int (w_i w 12 0 169)] w1 (wk0 (fun w3 => wle w1 w3 → zL_X13_snapshot_p25 E L Q (w_i w 12 0 168) (w_i w 12 0 169) v2 0 w3) (fun e w => Q (.inr e) w))) (fun e w => Q (.inr e) w))
theorem zt_X13_snapshot_p0 {E : zE} {L : Nat} {Q : kx_Rs → wS → Prop} {w : wS} (hL : 23 ≤ L) (h : zb_X13_snapshot_p0 E L Q  w) : kzE E L kt_M542 0 [(0, .ref (w_adr E.2.1 12 0))] [] w Q := by
  unfold zb_X13_snapshot_p0 at h
  refine kz_aload_n (M := kt_M542) kX13_snapshot_c0.1 rfl ?_
  refine kz_gfi (M := kt_M542) (c := 12) (o := 0) kX13_snapshot_c0.2.1 wf_X13_1231 (.inl rfl) ?_
  refine kz_sti_n (M := kt_M542) [(0, .ref (w_adr E.2.1 12 0))] kX13_snapshot_c0.2.2.1 (Nat.le_of_ble_eq_true rfl) ⟨⟨rfl, rfl, .inr rfl⟩, trivial⟩ rfl ?_
  refine kz_aload_n (M := kt_M542) kX13_snapshot_c0.2.2.2.1 rfl ?_
  refine kz_gfi (M := kt_M542) (c := 12) (o := 0) kX13_snapshot_c0.2.2.2.2.1 wf_X13_1234 (.inl rfl) ?_
  refine kz_sti_n (M := kt_M542) [(0, .ref (w_adr E.2.1 12 0)), (1, .int (w_i w 12 0 168))] kX13_snapshot_c0.2.2.2.2.2.1 (Nat.le_of_ble_eq_true rfl) ⟨⟨rfl, rfl, .inl rfl⟩, ⟨⟨rfl, rfl, .inr rfl⟩, trivial⟩⟩ rfl ?_
  refine kz_aload_n (M := kt_M542) kX13_snapshot_c0.2.2.2.2.2.2.1 rfl ?_
  refine kz_iload_n (M := kt_M542) kX13_snapshot_c0.2.2.2.2.2.2.2.1 rfl ?_
  refine kz_cv1 (M := kt_M542) (c := 12) (o := 0) (As := [.int (w_i w 12 0 169)]) (rest := []) kX13_snapshot_c1.1 wl_X13_1237 wMv_419 rfl (.inl rfl) rfl (Nat.le_trans (Nat.le_of_ble_eq_true rfl) hL) (Nat.le_of_ble_eq_true rfl) (Nat.le_of_ble_eq_true rfl) h (fun v2 w1 hle h => ?_) (fun _ _ _ h => kzx_no rfl h)
  have h := h hle
  refine kz_sti_n (M := kt_M542) [(0, .ref (w_adr E.2.1 12 0)), (1, .int (w_i w 12 0 168)), (2, .int (w_i w 12 0 169))] kX13_snapshot_c1.2.1 (Nat.le_of_ble_eq_true rfl) ⟨⟨rfl, rfl, .inl rfl⟩, ⟨⟨rfl, rfl, .inl rfl⟩, ⟨⟨rfl, rfl, .inr rfl⟩, trivial⟩⟩⟩ rfl ?_
  refine kz_aload_n (M := kt_M542) kX13_snapshot_c1.2.2.1 rfl ?_
  refine kz_iload_n (M := kt_M542) kX13_snapshot_c1.2.2.2.1 rfl ?_
  refine kz_iload_n (M := kt_M542) kX13_snapshot_c1.2.2.2.2.1 rfl ?_
  refine kz_cv0 (M := kt_M542) (c := 12) (o := 0) (As := [.int v2, .int (w_i w 12 0 169)]) (rest := []) kX13_snapshot_c1.2.2.2.2.2.1 wl_X13_1240 wMv_452 rfl (.inl rfl) rfl (Nat.le_trans (Nat.le_of_ble_eq_true rfl) hL) (Nat.le_of_ble_eq_true rfl) (Nat.le_of_ble_eq_true rfl) h (fun w3 hle h => ?_) (fun _ _ _ h => kzx_no rfl h)
  have h := h hle
  refine kz_ic (M := kt_M542) 0 kX13_snapshot_c1.2.2.2.2.2.2.1 rfl ?_
  refine kz_sti (M := kt_M542) [(0, .ref (w_adr E.2.1 12 0)), (1, .int (w_i w 12 0 168)), (2, .int (w_i w 12 0 169)), (3, .int v2)] kX13_snapshot_c1.2.2.2.2.2.2.2.1 (Nat.le_of_ble_eq_true rfl) ⟨⟨rfl, rfl, .inl rfl⟩, ⟨⟨rfl, rfl, .inl rfl⟩, ⟨⟨rfl, rfl, .inl rfl⟩, ⟨⟨rfl, rfl, .inr rfl⟩, trivial⟩⟩⟩⟩ rfl ?_
  exact kz_weak [(0, .ref (w_adr E.2.1 12 0)), (1, .int (w_i w 12 0 168)), (2, .int (w_i w 12 0 169)), (3, .int v2), (4, .int 0)] ⟨rfl, ⟨rfl, ⟨rfl, ⟨rfl, ⟨rfl, trivial⟩⟩⟩⟩⟩ rfl h
def zb_X13_target_p0 (E : zE) (L : Nat) (Q : kx_Rs → wS → Prop) (x1 : Int32) (w : wS) : Prop := (kx_inb x1 (w_n w 12 0 28) = true ∧ (if w_a w 12 0 28 (x1).toNatClampNeg < 0 then (kx_inb x1 (w_n w 12 0 31) = true ∧ zw E (L - 21) kt_M540 [.ref (w_adr E.2.1 12 0), .int (w_a w 12 0 31 (x1).toNatClampNeg)] w (wk1 (fun v2 w1 => wle w w1 → zw E (L - 21) kt_M410 [.ref (w_adr E.2.1 12 0), .int v2] w1 (wk1 (fun v4 w3 => wle w1 w3 → (kx_inb x1 (w_n w3 12 0 31) = true ∧ zw E (L - 22) kt_M464 [.ref (w_adr E.2.1 12 0), .int (w_a w3 12 0 31 (x1).toNatClampNeg), .int v2] w3 (wk1 (fun v6 w5 => wle w3 w5 → zw E (L - 22) kt_M431 [.ref (w_adr E.2.1 12 0), .int v4, .int v6] w5 (wk0 (fun w7 => wle w5 w7 → Q (.inl none) w7) (fun e w => Q (.inr e) w))) (fun e w => Q (.inr e) w)))) (fun e w => Q (.inr e) w))) (fun e w => Q (.inr e) w))) else zw E (L - 23) kt_M433 [.ref (w_adr E.2.1 12 0), .int x1] w (wk1 (fun v10 w9 => wle w w9 → zw E (L - 22) kt_M431 [.ref (w_adr E.2.1 12 0), .int v10, .int 1] w9 (wk0 (fun w11 => wle w9 w11 → Q (.inl none) w11) (fun e w => Q (.inr e) w))) (fun e w => Q (.inr e) w))))
theorem zt_X13_target_p0 {E : zE} {L : Nat} {Q : kx_Rs → wS → Prop} {x1 : Int32} {w : wS} (hL : 23 ≤ L) (h : zb_X13_target_p0 E L Q x1 w) : kzE E L kt_M557 0 [(0, .ref (w_adr E.2.1 12 0)), (1, .int x1)] [] w Q := by
  unfold zb_X13_target_p0 at h
  refine kz_aload_n (M := kt_M557) kX13_target_c0.1 rfl ?_
  refine kz_gfc (M := kt_M557) (x := 4100) (c := 12) (o := 0) kX13_target_c0.2.1 wf_X13_193 (.inl rfl) ?_
  refine kz_iload_n (M := kt_M557) kX13_target_c0.2.2.1 rfl ?_
  refine kz_iald (M := kt_M557) (c := 12) (o := 0) (k := 28) (a := (E.2.1 4100)) kX13_target_c0.2.2.2.1 ow_12_0_28 oa_12_0_28 ot_0 h (fun h => ?_)
  refine kz_if_lt (M := kt_M557) kX13_target_c0.2.2.2.2.1 (t := 22) rfl h (fun h => ?_) (fun h => ?_)
  · skip
    refine kz_aload_n (M := kt_M557) kX13_target_c1.2.2.2.2.2.2.1 rfl ?_
    refine kz_aload_n (M := kt_M557) kX13_target_c1.2.2.2.2.2.2.2.1 rfl ?_
    refine kz_gfc (M := kt_M557) (x := 4103) (c := 12) (o := 0) kX13_target_c2.1 wf_X13_202 (.inl rfl) ?_
    refine kz_iload_n (M := kt_M557) kX13_target_c2.2.1 rfl ?_
    refine kz_iald (M := kt_M557) (c := 12) (o := 0) (k := 31) (a := (E.2.1 4103)) kX13_target_c2.2.2.1 ow_12_0_31 oa_12_0_31 ot_0 h (fun h => ?_)
    refine kz_cv1 (M := kt_M557) (c := 12) (o := 0) (As := [.int (w_a w 12 0 31 (x1).toNatClampNeg)]) (rest := []) kX13_target_c2.2.2.2.1 wl_X13_1210 wMv_540 rfl (.inl rfl) rfl (Nat.le_trans (Nat.le_of_ble_eq_true rfl) hL) (Nat.le_of_ble_eq_true rfl) (Nat.le_of_ble_eq_true rfl) h (fun v2 w1 hle h => ?_) (fun _ _ _ h => kzx_no rfl h)
    have h := h hle
    refine kz_sti_n (M := kt_M557) [(0, .ref (w_adr E.2.1 12 0)), (1, .int x1)] kX13_target_c2.2.2.2.2.1 (Nat.le_of_ble_eq_true rfl) ⟨⟨rfl, rfl, .inl rfl⟩, ⟨⟨rfl, rfl, .inr rfl⟩, trivial⟩⟩ rfl ?_
    refine kz_aload_n (M := kt_M557) kX13_target_c2.2.2.2.2.2.1 rfl ?_
    refine kz_aload_n (M := kt_M557) kX13_target_c2.2.2.2.2.2.2.1 rfl ?_
    refine kz_iload_n (M := kt_M557) kX13_target_c2.2.2.2.2.2.2.2.1 rfl ?_
    refine kz_cv1 (M := kt_M557) (c := 12) (o := 0) (As := [.int v2]) (rest := [.ref (w_adr E.2.1 12 0)]) kX13_target_c3.1 wl_X13_1177 wMv_410 rfl (.inl rfl) rfl (Nat.le_trans (Nat.le_of_ble_eq_true rfl) hL) (Nat.le_of_ble_eq_true rfl) (Nat.le_of_ble_eq_true rfl) h (fun v4 w3 hle h => ?_) (fun _ _ _ h => kzx_no rfl h)
    have h := h hle
    refine kz_aload_n (M := kt_M557) kX13_target_c3.2.1 rfl ?_
    refine kz_aload_n (M := kt_M557) kX13_target_c3.2.2.1 rfl ?_
    refine kz_gfc (M := kt_M557) (x := 4103) (c := 12) (o := 0) kX13_target_c3.2.2.2.1 wf_X13_202 (.inl rfl) ?_
    refine kz_iload_n (M := kt_M557) kX13_target_c3.2.2.2.2.1 rfl ?_
    refine kz_iald (M := kt_M557) (c := 12) (o := 0) (k := 31) (a := (E.2.1 4103)) kX13_target_c3.2.2.2.2.2.1 ow_12_0_31 oa_12_0_31 ot_0 h (fun h => ?_)
    refine kz_iload_n (M := kt_M557) kX13_target_c3.2.2.2.2.2.2.1 rfl ?_
    refine kz_cv1 (M := kt_M557) (c := 12) (o := 0) (As := [.int (w_a w3 12 0 31 (x1).toNatClampNeg), .int v2]) (rest := [.int v4, .ref (w_adr E.2.1 12 0)]) kX13_target_c3.2.2.2.2.2.2.2.1 wl_X13_1254 wMv_464 rfl (.inl rfl) rfl (Nat.le_trans (Nat.le_of_ble_eq_true rfl) hL) (Nat.le_of_ble_eq_true rfl) (Nat.le_of_ble_eq_true rfl) h (fun v6 w5 hle h => ?_) (fun _ _ _ h => kzx_no rfl h)
    have h := h hle
    refine kz_cv0 (M := kt_M557) (c := 12) (o := 0) (As := [.int v4, .int v6]) (rest := []) kX13_target_c4.1 wl_X13_1355 wMv_431 rfl (.inl rfl) rfl (Nat.le_trans (Nat.le_of_ble_eq_true rfl) hL) (Nat.le_of_ble_eq_true rfl) (Nat.le_of_ble_eq_true rfl) h (fun w7 hle h => ?_) (fun _ _ _ h => kzx_no rfl h)
    have h := h hle
    exact kz_ret (M := kt_M557) kX13_target_c4.2.1 rfl h
  · skip
    refine kz_aload_n (M := kt_M557) kX13_target_c0.2.2.2.2.2.1 rfl ?_
    refine kz_iload_n (M := kt_M557) kX13_target_c0.2.2.2.2.2.2.1 rfl ?_
    refine kz_cv1 (M := kt_M557) (c := 12) (o := 0) (As := [.int x1]) (rest := []) kX13_target_c0.2.2.2.2.2.2.2.1 wl_X13_1219 wMv_433 rfl (.inl rfl) rfl (Nat.le_trans (Nat.le_of_ble_eq_true rfl) hL) (Nat.le_of_ble_eq_true rfl) (Nat.le_of_ble_eq_true rfl) h (fun v10 w9 hle h => ?_) (fun _ _ _ h => kzx_no rfl h)
    have h := h hle
    refine kz_sti_n (M := kt_M557) [(0, .ref (w_adr E.2.1 12 0))] kX13_target_c1.1 (Nat.le_of_ble_eq_true rfl) ⟨⟨rfl, rfl, .inl rfl⟩, trivial⟩ rfl ?_
    refine kz_aload_n (M := kt_M557) kX13_target_c1.2.1 rfl ?_
    refine kz_iload_n (M := kt_M557) kX13_target_c1.2.2.1 rfl ?_
    refine kz_ic (M := kt_M557) 1 kX13_target_c1.2.2.2.1 rfl ?_
    refine kz_cv0 (M := kt_M557) (c := 12) (o := 0) (As := [.int v10, .int 1]) (rest := []) kX13_target_c1.2.2.2.2.1 wl_X13_1355 wMv_431 rfl (.inl rfl) rfl (Nat.le_trans (Nat.le_of_ble_eq_true rfl) hL) (Nat.le_of_ble_eq_true rfl) (Nat.le_of_ble_eq_true rfl) h (fun w11 hle h => ?_) (fun _ _ _ h => kzx_no rfl h)
    have h := h hle
    exact kz_ret (M := kt_M557) kX13_target_c1.2.2.2.2.2.1 rfl h
def zb_X13_changed_p36 (E : zE) (L : Nat) (Q : kx_Rs → wS → Prop) (x1 : Int32) (x2 : Int32) (w : wS) : Prop := (kx_inb (w_i w 12 0 161) (w_n w 12 0 146) = true ∧ (kx_inb x1 (w_n w 12 0 112) = true ∧ (kx_inb x1 (w_n w 12 0 111) = true ∧ Q (.inl none) (ws_a (ws_a w 12 0 112 (x1).toNatClampNeg (w_a w 12 0 146 (w_i w 12 0 161).toNatClampNeg)) 12 0 111 (x1).toNatClampNeg x2))))
theorem zt_X13_changed_p36 {E : zE} {L : Nat} {Q : kx_Rs → wS → Prop} {x1 : Int32} {x2 : Int32} {w : wS} (hL : 22 ≤ L) (h : zb_X13_changed_p36 E L Q x1 x2 w) : kzE E L kt_M369 36 [(0, .ref (w_adr E.2.1 12 0)), (1, .int x1), (2, .int x2)] [] w Q := by
  unfold zb_X13_changed_p36 at h
  refine kz_aload_n (M := kt_M369) kX13_changed_c2.2.2.2.2.1 rfl ?_
  refine kz_gfa (M := kt_M369) (c := 12) (o := 0) kX13_changed_c2.2.2.2.2.2.1 wf_X13_353 (.inl rfl) ?_
  refine kz_iload_n (M := kt_M369) kX13_changed_c2.2.2.2.2.2.2.1 rfl ?_
  refine kz_aload_n (M := kt_M369) kX13_changed_c2.2.2.2.2.2.2.2.1 rfl ?_
  refine kz_gfc (M := kt_M369) (x := 4218) (c := 12) (o := 0) kX13_changed_c3.1 wf_X13_391 (.inl rfl) ?_
  refine kz_aload_n (M := kt_M369) kX13_changed_c3.2.1 rfl ?_
  refine kz_gfi (M := kt_M369) (c := 12) (o := 0) kX13_changed_c3.2.2.1 wf_X13_1168 (.inl rfl) ?_
  refine kz_iald (M := kt_M369) (c := 12) (o := 0) (k := 146) (a := (E.2.1 4218)) kX13_changed_c3.2.2.2.1 ow_12_0_146 oa_12_0_146 ot_0 h (fun h => ?_)
  refine kz_iast (M := kt_M369) (c := 12) (o := 0) (k := 112) (a := (w_d w 12 0 112)) kX13_changed_c3.2.2.2.2.1 ow_12_0_112 oa_12_0_112 ot_0 h (fun h => ?_)
  refine kz_aload_n (M := kt_M369) kX13_changed_c3.2.2.2.2.2.1 rfl ?_
  refine kz_gfa (M := kt_M369) (c := 12) (o := 0) kX13_changed_c3.2.2.2.2.2.2.1 wf_X13_350 (.inl rfl) ?_
  refine kz_iload_n (M := kt_M369) kX13_changed_c3.2.2.2.2.2.2.2.1 rfl ?_
  refine kz_iload_n (M := kt_M369) kX13_changed_c4.1 rfl ?_
  refine kz_iastR (M := kt_M369) (n := w_n w 12 0 111) (c := 12) (o := 0) (k := 111) (a := (w_d (ws_a w 12 0 112 (x1).toNatClampNeg (w_a w 12 0 146 (w_i w 12 0 161).toNatClampNeg)) 12 0 111)) kX13_changed_c4.2.1 ow_12_0_111 oa_12_0_111 ot_0 rd_n_a h (fun h => ?_)
  exact kz_ret (M := kt_M369) kX13_changed_c4.2.2.1 rfl h
def zb_X13_changed_p26 (E : zE) (L : Nat) (Q : kx_Rs → wS → Prop) (x1 : Int32) (x2 : Int32) (w : wS) : Prop := zb_X13_changed_p36 E L Q x1 x2 (ws_i w 12 0 132 ((w_i w 12 0 132) + 1))
theorem zt_X13_changed_p26 {E : zE} {L : Nat} {Q : kx_Rs → wS → Prop} {x1 : Int32} {x2 : Int32} {w : wS} (hL : 22 ≤ L) (h : zb_X13_changed_p26 E L Q x1 x2 w) : kzE E L kt_M369 26 [(0, .ref (w_adr E.2.1 12 0)), (1, .int x1), (2, .int x2)] [] w Q := by
  unfold zb_X13_changed_p26 at h
  refine kz_aload_n (M := kt_M369) kX13_changed_c1.2.2.2.2.2.2.1 rfl ?_
  refine kz_dup (M := kt_M369) kX13_changed_c1.2.2.2.2.2.2.2.1 rfl ?_
  refine kz_gfi (M := kt_M369) (c := 12) (o := 0) kX13_changed_c2.1 wf_X13_1198 (.inl rfl) ?_
  refine kz_ic (M := kt_M369) 1 kX13_changed_c2.2.1 rfl ?_
  refine kz_iadd (M := kt_M369) kX13_changed_c2.2.2.1 ?_
  refine kz_pfi (M := kt_M369) (c := 12) (o := 0) kX13_changed_c2.2.2.2.1 wq_X13_1198 (.inl rfl) ?_
  exact kz_weak [(0, .ref (w_adr E.2.1 12 0)), (1, .int x1), (2, .int x2)] ⟨rfl, ⟨rfl, ⟨rfl, trivial⟩⟩⟩ rfl (zt_X13_changed_p36 hL  h)
def zb_X13_changed_p0 (E : zE) (L : Nat) (Q : kx_Rs → wS → Prop) (x1 : Int32) (x2 : Int32) (w : wS) : Prop := (kx_inb x1 (w_n w 12 0 112) = true ∧ zw E (L - 22) kt_M439 [.ref (w_adr E.2.1 12 0), .int (w_a w 12 0 112 (x1).toNatClampNeg)] w (wk1 (fun v2 w1 => wle w w1 → (if ¬ v2 = 0 then zb_X13_changed_p26 E L Q x1 x2 w1 else (kx_inb x1 (w_n w1 12 0 113) = true ∧ zw E (L - 22) kt_M439 [.ref (w_adr E.2.1 12 0), .int (w_a w1 12 0 113 (x1).toNatClampNeg)] w1 (wk1 (fun v4 w3 => wle w1 w3 → (if v4 = 0 then zb_X13_changed_p36 E L Q x1 x2 w3 else zb_X13_changed_p26 E L Q x1 x2 w3)) (fun e w => Q (.inr e) w))))) (fun e w => Q (.inr e) w)))
theorem zt_X13_changed_p0 {E : zE} {L : Nat} {Q : kx_Rs → wS → Prop} {x1 : Int32} {x2 : Int32} {w : wS} (hL : 22 ≤ L) (h : zb_X13_changed_p0 E L Q x1 x2 w) : kzE E L kt_M369 0 [(0, .ref (w_adr E.2.1 12 0)), (1, .int x1), (2, .int x2)] [] w Q := by
  unfold zb_X13_changed_p0 at h
  refine kz_aload_n (M := kt_M369) kX13_changed_c0.1 rfl ?_
  refine kz_aload_n (M := kt_M369) kX13_changed_c0.2.1 rfl ?_
  refine kz_gfa (M := kt_M369) (c := 12) (o := 0) kX13_changed_c0.2.2.1 wf_X13_353 (.inl rfl) ?_
  refine kz_iload_n (M := kt_M369) kX13_changed_c0.2.2.2.1 rfl ?_
  refine kz_iald (M := kt_M369) (c := 12) (o := 0) (k := 112) (a := (w_d w 12 0 112)) kX13_changed_c0.2.2.2.2.1 ow_12_0_112 oa_12_0_112 ot_0 h (fun h => ?_)
  refine kz_cv1 (M := kt_M369) (c := 12) (o := 0) (As := [.int (w_a w 12 0 112 (x1).toNatClampNeg)]) (rest := []) kX13_changed_c0.2.2.2.2.2.1 wl_X13_1195 wMv_439 rfl (.inl rfl) rfl (Nat.le_trans (Nat.le_of_ble_eq_true rfl) hL) (Nat.le_of_ble_eq_true rfl) (Nat.le_of_ble_eq_true rfl) h (fun v2 w1 hle h => ?_) (fun _ _ _ h => kzx_no rfl h)
  have h := h hle
  refine kz_if_ne (M := kt_M369) kX13_changed_c0.2.2.2.2.2.2.1 (t := 26) rfl h (fun h => ?_) (fun h => ?_)
  · skip
    exact kz_weak [(0, .ref (w_adr E.2.1 12 0)), (1, .int x1), (2, .int x2)] ⟨rfl, ⟨rfl, ⟨rfl, trivial⟩⟩⟩ rfl (zt_X13_changed_p26 hL  h)
  · skip
    refine kz_aload_n (M := kt_M369) kX13_changed_c0.2.2.2.2.2.2.2.1 rfl ?_
    refine kz_aload_n (M := kt_M369) kX13_changed_c1.1 rfl ?_
    refine kz_gfa (M := kt_M369) (c := 12) (o := 0) kX13_changed_c1.2.1 wf_X13_356 (.inl rfl) ?_
    refine kz_iload_n (M := kt_M369) kX13_changed_c1.2.2.1 rfl ?_
    refine kz_iald (M := kt_M369) (c := 12) (o := 0) (k := 113) (a := (w_d w1 12 0 113)) kX13_changed_c1.2.2.2.1 ow_12_0_113 oa_12_0_113 ot_0 h (fun h => ?_)
    refine kz_cv1 (M := kt_M369) (c := 12) (o := 0) (As := [.int (w_a w1 12 0 113 (x1).toNatClampNeg)]) (rest := []) kX13_changed_c1.2.2.2.2.1 wl_X13_1195 wMv_439 rfl (.inl rfl) rfl (Nat.le_trans (Nat.le_of_ble_eq_true rfl) hL) (Nat.le_of_ble_eq_true rfl) (Nat.le_of_ble_eq_true rfl) h (fun v4 w3 hle h => ?_) (fun _ _ _ h => kzx_no rfl h)
    have h := h hle
    refine kz_if_eq (M := kt_M369) kX13_changed_c1.2.2.2.2.2.1 (t := 36) rfl h (fun h => ?_) (fun h => ?_)
    · skip
      exact kz_weak [(0, .ref (w_adr E.2.1 12 0)), (1, .int x1), (2, .int x2)] ⟨rfl, ⟨rfl, ⟨rfl, trivial⟩⟩⟩ rfl (zt_X13_changed_p36 hL  h)
    · skip
      exact kz_weak [(0, .ref (w_adr E.2.1 12 0)), (1, .int x1), (2, .int x2)] ⟨rfl, ⟨rfl, ⟨rfl, trivial⟩⟩⟩ rfl (zt_X13_changed_p26 hL  h)
def zb_X13_isBeside_p58 (E : zE) (L : Nat) (Q : kx_Rs → wS → Prop) (y0 : Int32) (w : wS) : Prop := ((y0 = 0 ∨ y0 = 1) ∧ Q (.inl (some (.int y0))) w)
theorem zt_X13_isBeside_p58 {E : zE} {L : Nat} {Q : kx_Rs → wS → Prop} {y0 : Int32} {w : wS} (hL : 23 ≤ L) (h : zb_X13_isBeside_p58 E L Q y0 w) : kzE E L kt_M439 58 [(0, .ref (w_adr E.2.1 12 0))] [.int y0] w Q := by
  unfold zb_X13_isBeside_p58 at h
  exact kz_iretz (M := kt_M439) kX13_isBeside_c4.1 rfl h.1 h.2
def zb_X13_isBeside_p57 (E : zE) (L : Nat) (Q : kx_Rs → wS → Prop) (w : wS) : Prop := zb_X13_isBeside_p58 E L Q 0 w
theorem zt_X13_isBeside_p57 {E : zE} {L : Nat} {Q : kx_Rs → wS → Prop} {w : wS} (hL : 23 ≤ L) (h : zb_X13_isBeside_p57 E L Q  w) : kzE E L kt_M439 57 [(0, .ref (w_adr E.2.1 12 0))] [] w Q := by
  unfold zb_X13_isBeside_p57 at h
  refine kz_ic (M := kt_M439) 0 kX13_isBeside_c3.2.2.2.2.2.2.2.1 rfl ?_
  exact kz_weak [(0, .ref (w_adr E.2.1 12 0))] ⟨rfl, trivial⟩ rfl (zt_X13_isBeside_p58 hL  h)
def zb_X13_isBeside_p17 (E : zE) (L : Nat) (Q : kx_Rs → wS → Prop) (w : wS) : Prop := Q (.inl (some (.int 0))) w
theorem zt_X13_isBeside_p17 {E : zE} {L : Nat} {Q : kx_Rs → wS → Prop} {w : wS} (hL : 23 ≤ L) (h : zb_X13_isBeside_p17 E L Q  w) : kzE E L kt_M439 17 [(0, .ref (w_adr E.2.1 12 0))] [] w Q := by
  unfold zb_X13_isBeside_p17 at h
  refine kz_ic (M := kt_M439) 0 kX13_isBeside_c1.2.1 rfl ?_
  exact kz_iretz (M := kt_M439) kX13_isBeside_c1.2.2.1 rfl (by decide) h
def zb_X13_isBeside_p0 (E : zE) (L : Nat) (Q : kx_Rs → wS → Prop) (x1 : Int32) (w : wS) : Prop := (if x1 < 0 then zb_X13_isBeside_p17 E L Q w else (kx_inb (w_i w 12 0 161) (w_n w 12 0 146) = true ∧ (if ¬ x1 = w_a w 12 0 146 (w_i w 12 0 161).toNatClampNeg then zw E (L - 22) kt_M541 [.ref (w_adr E.2.1 12 0), .int x1] w (wk1 (fun v2 w1 => wle w w1 → (if v2 < 0 then zb_X13_isBeside_p57 E L Q w1 else zw E (L - 23) kt_M449 [.ref (w_adr E.2.1 12 0), .int v2, .int (w_i w1 12 0 161)] w1 (wk1 (fun v4 w3 => wle w1 w3 → (if ¬ v4 = 0 then zb_X13_isBeside_p57 E L Q w3 else zw E (L - 23) kt_M449 [.ref (w_adr E.2.1 12 0), .int (w_i w3 12 0 161), .int v2] w3 (wk1 (fun v6 w5 => wle w3 w5 → (if ¬ v6 = 0 then zb_X13_isBeside_p57 E L Q w5 else zb_X13_isBeside_p58 E L Q 1 w5)) (fun e w => Q (.inr e) w)))) (fun e w => Q (.inr e) w)))) (fun e w => Q (.inr e) w)) else zb_X13_isBeside_p17 E L Q w)))
theorem zt_X13_isBeside_p0 {E : zE} {L : Nat} {Q : kx_Rs → wS → Prop} {x1 : Int32} {w : wS} (hL : 23 ≤ L) (h : zb_X13_isBeside_p0 E L Q x1 w) : kzE E L kt_M439 0 [(0, .ref (w_adr E.2.1 12 0)), (1, .int x1)] [] w Q := by
  unfold zb_X13_isBeside_p0 at h
  refine kz_iload_n (M := kt_M439) kX13_isBeside_c0.1 rfl ?_
  refine kz_if_lt (M := kt_M439) kX13_isBeside_c0.2.1 (t := 17) rfl h (fun h => ?_) (fun h => ?_)
  · skip
    exact kz_weak [(0, .ref (w_adr E.2.1 12 0))] ⟨rfl, trivial⟩ rfl (zt_X13_isBeside_p17 hL  h)
  · skip
    refine kz_iload_n (M := kt_M439) kX13_isBeside_c0.2.2.1 rfl ?_
    refine kz_aload_n (M := kt_M439) kX13_isBeside_c0.2.2.2.1 rfl ?_
    refine kz_gfc (M := kt_M439) (x := 4218) (c := 12) (o := 0) kX13_isBeside_c0.2.2.2.2.1 wf_X13_391 (.inl rfl) ?_
    refine kz_aload_n (M := kt_M439) kX13_isBeside_c0.2.2.2.2.2.1 rfl ?_
    refine kz_gfi (M := kt_M439) (c := 12) (o := 0) kX13_isBeside_c0.2.2.2.2.2.2.1 wf_X13_1168 (.inl rfl) ?_
    refine kz_iald (M := kt_M439) (c := 12) (o := 0) (k := 146) (a := (E.2.1 4218)) kX13_isBeside_c0.2.2.2.2.2.2.2.1 ow_12_0_146 oa_12_0_146 ot_0 h (fun h => ?_)
    refine kz_icmp_ne (M := kt_M439) kX13_isBeside_c1.1 (t := 19) rfl h (fun h => ?_) (fun h => ?_)
    · skip
      refine kz_aload_n (M := kt_M439) kX13_isBeside_c1.2.2.2.1 rfl ?_
      refine kz_iload_n (M := kt_M439) kX13_isBeside_c1.2.2.2.2.1 rfl ?_
      refine kz_cv1 (M := kt_M439) (c := 12) (o := 0) (As := [.int x1]) (rest := []) kX13_isBeside_c1.2.2.2.2.2.1 wl_X13_1189 wMv_541 rfl (.inl rfl) rfl (Nat.le_trans (Nat.le_of_ble_eq_true rfl) hL) (Nat.le_of_ble_eq_true rfl) (Nat.le_of_ble_eq_true rfl) h (fun v2 w1 hle h => ?_) (fun _ _ _ h => kzx_no rfl h)
      have h := h hle
      refine kz_sti_n (M := kt_M439) [(0, .ref (w_adr E.2.1 12 0))] kX13_isBeside_c1.2.2.2.2.2.2.1 (Nat.le_of_ble_eq_true rfl) ⟨⟨rfl, rfl, .inl rfl⟩, trivial⟩ rfl ?_
      refine kz_iload_n (M := kt_M439) kX13_isBeside_c1.2.2.2.2.2.2.2.1 rfl ?_
      refine kz_if_lt (M := kt_M439) kX13_isBeside_c2.1 (t := 57) rfl h (fun h => ?_) (fun h => ?_)
      · skip
        exact kz_weak [(0, .ref (w_adr E.2.1 12 0))] ⟨rfl, trivial⟩ rfl (zt_X13_isBeside_p57 hL  h)
      · skip
        refine kz_aload_n (M := kt_M439) kX13_isBeside_c2.2.1 rfl ?_
        refine kz_iload_n (M := kt_M439) kX13_isBeside_c2.2.2.1 rfl ?_
        refine kz_aload_n (M := kt_M439) kX13_isBeside_c2.2.2.2.1 rfl ?_
        refine kz_gfi (M := kt_M439) (c := 12) (o := 0) kX13_isBeside_c2.2.2.2.2.1 wf_X13_1168 (.inl rfl) ?_
        refine kz_cv1 (M := kt_M439) (c := 12) (o := 0) (As := [.int v2, .int (w_i w1 12 0 161)]) (rest := []) kX13_isBeside_c2.2.2.2.2.2.1 wl_X13_1192 wMv_449 rfl (.inl rfl) rfl (Nat.le_trans (Nat.le_of_ble_eq_true rfl) hL) (Nat.le_of_ble_eq_true rfl) (Nat.le_of_ble_eq_true rfl) h (fun v4 w3 hle h => ?_) (fun _ _ _ h => kzx_no rfl h)
        have h := h hle
        refine kz_if_ne (M := kt_M439) kX13_isBeside_c2.2.2.2.2.2.2.1 (t := 57) rfl h (fun h => ?_) (fun h => ?_)
        · skip
          exact kz_weak [(0, .ref (w_adr E.2.1 12 0))] ⟨rfl, trivial⟩ rfl (zt_X13_isBeside_p57 hL  h)
        · skip
          refine kz_aload_n (M := kt_M439) kX13_isBeside_c2.2.2.2.2.2.2.2.1 rfl ?_
          refine kz_aload_n (M := kt_M439) kX13_isBeside_c3.1 rfl ?_
          refine kz_gfi (M := kt_M439) (c := 12) (o := 0) kX13_isBeside_c3.2.1 wf_X13_1168 (.inl rfl) ?_
          refine kz_iload_n (M := kt_M439) kX13_isBeside_c3.2.2.1 rfl ?_
          refine kz_cv1 (M := kt_M439) (c := 12) (o := 0) (As := [.int (w_i w3 12 0 161), .int v2]) (rest := []) kX13_isBeside_c3.2.2.2.1 wl_X13_1192 wMv_449 rfl (.inl rfl) rfl (Nat.le_trans (Nat.le_of_ble_eq_true rfl) hL) (Nat.le_of_ble_eq_true rfl) (Nat.le_of_ble_eq_true rfl) h (fun v6 w5 hle h => ?_) (fun _ _ _ h => kzx_no rfl h)
          have h := h hle
          refine kz_if_ne (M := kt_M439) kX13_isBeside_c3.2.2.2.2.1 (t := 57) rfl h (fun h => ?_) (fun h => ?_)
          · skip
            exact kz_weak [(0, .ref (w_adr E.2.1 12 0))] ⟨rfl, trivial⟩ rfl (zt_X13_isBeside_p57 hL  h)
          · skip
            refine kz_ic (M := kt_M439) 1 kX13_isBeside_c3.2.2.2.2.2.1 rfl ?_
            refine kz_goto (M := kt_M439) kX13_isBeside_c3.2.2.2.2.2.2.1 (t := 58) rfl ?_
            exact kz_weak [(0, .ref (w_adr E.2.1 12 0))] ⟨rfl, trivial⟩ rfl (zt_X13_isBeside_p58 hL  h)
    · skip
      exact kz_weak [(0, .ref (w_adr E.2.1 12 0))] ⟨rfl, trivial⟩ rfl (zt_X13_isBeside_p17 hL  h)
def zL_X13_slotOf_p2 (E : zE) (L : Nat) (Q : kx_Rs → wS → Prop) (x1 : Int32) (x2 : Int32) (w : wS) : Prop := kzE E L kt_M541 2 [(0, .ref (w_adr E.2.1 12 0)), (1, .int x1), (2, .int x2)] [] w Q
def zb_X13_slotOf_p2 (E : zE) (L : Nat) (Q : kx_Rs → wS → Prop) (x1 : Int32) (x2 : Int32) (w : wS) : Prop := (if w_i w 12 0 143 ≤ x2 then Q (.inl (some (.int (-1)))) w else (kx_inb x2 (w_n w 12 0 144) = true ∧ (kx_inb (w_a w 12 0 144 (x2).toNatClampNeg) (w_n w 12 0 146) = true ∧ (if ¬ w_a w 12 0 146 (w_a w 12 0 144 (x2).toNatClampNeg).toNatClampNeg = x1 then zL_X13_slotOf_p2 E L Q x1 (x2 + 1) w else (kx_inb x2 (w_n w 12 0 144) = true ∧ Q (.inl (some (.int (w_a w 12 0 144 (x2).toNatClampNeg)))) w)))))
theorem zt_X13_slotOf_p2 {E : zE} {L : Nat} {Q : kx_Rs → wS → Prop} {x1 : Int32} {x2 : Int32} {w : wS} (hL : 19 ≤ L) (h : zb_X13_slotOf_p2 E L Q x1 x2 w) : kzE E L kt_M541 2 [(0, .ref (w_adr E.2.1 12 0)), (1, .int x1), (2, .int x2)] [] w Q := by
  unfold zb_X13_slotOf_p2 at h
  refine kz_iload_n (M := kt_M541) kX13_slotOf_c0.2.2.1 rfl ?_
  refine kz_aload_n (M := kt_M541) kX13_slotOf_c0.2.2.2.1 rfl ?_
  refine kz_gfi (M := kt_M541) (c := 12) (o := 0) kX13_slotOf_c0.2.2.2.2.1 wf_X13_1186 (.inl rfl) ?_
  refine kz_icmp_ge (M := kt_M541) kX13_slotOf_c0.2.2.2.2.2.1 (t := 38) rfl h (fun h => ?_) (fun h => ?_)
  · skip
    refine kz_ic (M := kt_M541) (-1) kX13_slotOf_c2.2.2.2.2.2.2.1 rfl ?_
    exact kz_iret (M := kt_M541) kX13_slotOf_c2.2.2.2.2.2.2.2.1 rfl rfl h
  · skip
    refine kz_aload_n (M := kt_M541) kX13_slotOf_c0.2.2.2.2.2.2.1 rfl ?_
    refine kz_gfc (M := kt_M541) (x := 4218) (c := 12) (o := 0) kX13_slotOf_c0.2.2.2.2.2.2.2.1 wf_X13_391 (.inl rfl) ?_
    refine kz_aload_n (M := kt_M541) kX13_slotOf_c1.1 rfl ?_
    refine kz_gfc (M := kt_M541) (x := 4216) (c := 12) (o := 0) kX13_slotOf_c1.2.1 wf_X13_385 (.inl rfl) ?_
    refine kz_iload_n (M := kt_M541) kX13_slotOf_c1.2.2.1 rfl ?_
    refine kz_iald (M := kt_M541) (c := 12) (o := 0) (k := 144) (a := (E.2.1 4216)) kX13_slotOf_c1.2.2.2.1 ow_12_0_144 oa_12_0_144 ot_0 h (fun h => ?_)
    refine kz_iald (M := kt_M541) (c := 12) (o := 0) (k := 146) (a := (E.2.1 4218)) kX13_slotOf_c1.2.2.2.2.1 ow_12_0_146 oa_12_0_146 ot_0 h (fun h => ?_)
    refine kz_iload_n (M := kt_M541) kX13_slotOf_c1.2.2.2.2.2.1 rfl ?_
    refine kz_icmp_ne (M := kt_M541) kX13_slotOf_c1.2.2.2.2.2.2.1 (t := 32) rfl h (fun h => ?_) (fun h => ?_)
    · skip
      refine kz_inc (M := kt_M541) [(0, .ref (w_adr E.2.1 12 0)), (1, .int x1)] kX13_slotOf_c2.2.2.2.2.1 rfl (Nat.le_of_ble_eq_true rfl) ⟨⟨rfl, rfl, .inl rfl⟩, ⟨⟨rfl, rfl, .inr rfl⟩, trivial⟩⟩ rfl ?_
      refine kz_goto (M := kt_M541) kX13_slotOf_c2.2.2.2.2.2.1 (t := 2) rfl ?_
      exact kz_weak [(0, .ref (w_adr E.2.1 12 0)), (1, .int x1), (2, .int (x2 + 1))] ⟨rfl, ⟨rfl, ⟨rfl, trivial⟩⟩⟩ rfl h
    · skip
      refine kz_aload_n (M := kt_M541) kX13_slotOf_c1.2.2.2.2.2.2.2.1 rfl ?_
      refine kz_gfc (M := kt_M541) (x := 4216) (c := 12) (o := 0) kX13_slotOf_c2.1 wf_X13_385 (.inl rfl) ?_
      refine kz_iload_n (M := kt_M541) kX13_slotOf_c2.2.1 rfl ?_
      refine kz_iald (M := kt_M541) (c := 12) (o := 0) (k := 144) (a := (E.2.1 4216)) kX13_slotOf_c2.2.2.1 ow_12_0_144 oa_12_0_144 ot_0 h (fun h => ?_)
      exact kz_iret (M := kt_M541) kX13_slotOf_c2.2.2.2.1 rfl rfl h
def zb_X13_slotOf_p0 (E : zE) (L : Nat) (Q : kx_Rs → wS → Prop) (x1 : Int32) (w : wS) : Prop := zL_X13_slotOf_p2 E L Q x1 0 w
theorem zt_X13_slotOf_p0 {E : zE} {L : Nat} {Q : kx_Rs → wS → Prop} {x1 : Int32} {w : wS} (hL : 19 ≤ L) (h : zb_X13_slotOf_p0 E L Q x1 w) : kzE E L kt_M541 0 [(0, .ref (w_adr E.2.1 12 0)), (1, .int x1)] [] w Q := by
  unfold zb_X13_slotOf_p0 at h
  refine kz_ic (M := kt_M541) 0 kX13_slotOf_c0.1 rfl ?_
  refine kz_sti_n (M := kt_M541) [(0, .ref (w_adr E.2.1 12 0)), (1, .int x1)] kX13_slotOf_c0.2.1 (Nat.le_of_ble_eq_true rfl) ⟨⟨rfl, rfl, .inl rfl⟩, ⟨⟨rfl, rfl, .inr rfl⟩, trivial⟩⟩ rfl ?_
  exact kz_weak [(0, .ref (w_adr E.2.1 12 0)), (1, .int x1), (2, .int 0)] ⟨rfl, ⟨rfl, ⟨rfl, trivial⟩⟩⟩ rfl h
def zL_X13_isUnder_p2 (E : zE) (L : Nat) (Q : kx_Rs → wS → Prop) (x2 : Int32) (x3 : Int32) (w : wS) : Prop := kzE E L kt_M449 2 [(0, .ref (w_adr E.2.1 12 0)), (2, .int x2), (3, .int x3)] [] w Q
def zb_X13_isUnder_p2 (E : zE) (L : Nat) (Q : kx_Rs → wS → Prop) (x2 : Int32) (x3 : Int32) (w : wS) : Prop := (if x3 < 0 then Q (.inl (some (.int 0))) w else (if ¬ x3 = x2 then (kx_inb x3 (w_n w 12 0 148) = true ∧ zL_X13_isUnder_p2 E L Q x2 (w_a w 12 0 148 (x3).toNatClampNeg) w) else Q (.inl (some (.int 1))) w))
theorem zt_X13_isUnder_p2 {E : zE} {L : Nat} {Q : kx_Rs → wS → Prop} {x2 : Int32} {x3 : Int32} {w : wS} (hL : 19 ≤ L) (h : zb_X13_isUnder_p2 E L Q x2 x3 w) : kzE E L kt_M449 2 [(0, .ref (w_adr E.2.1 12 0)), (2, .int x2), (3, .int x3)] [] w Q := by
  unfold zb_X13_isUnder_p2 at h
  refine kz_iload_n (M := kt_M449) kX13_isUnder_c0.2.2.1 rfl ?_
  refine kz_if_lt (M := kt_M449) kX13_isUnder_c0.2.2.2.1 (t := 23) rfl h (fun h => ?_) (fun h => ?_)
  · skip
    refine kz_ic (M := kt_M449) 0 kX13_isUnder_c1.2.2.2.2.2.2.2.1 rfl ?_
    exact kz_iretz (M := kt_M449) kX13_isUnder_c2.1 rfl (by decide) h
  · skip
    refine kz_iload_n (M := kt_M449) kX13_isUnder_c0.2.2.2.2.1 rfl ?_
    refine kz_iload_n (M := kt_M449) kX13_isUnder_c0.2.2.2.2.2.1 rfl ?_
    refine kz_icmp_ne (M := kt_M449) kX13_isUnder_c0.2.2.2.2.2.2.1 (t := 13) rfl h (fun h => ?_) (fun h => ?_)
    · skip
      refine kz_aload_n (M := kt_M449) kX13_isUnder_c1.2.1 rfl ?_
      refine kz_gfc (M := kt_M449) (x := 4220) (c := 12) (o := 0) kX13_isUnder_c1.2.2.1 wf_X13_397 (.inl rfl) ?_
      refine kz_iload_n (M := kt_M449) kX13_isUnder_c1.2.2.2.1 rfl ?_
      refine kz_iald (M := kt_M449) (c := 12) (o := 0) (k := 148) (a := (E.2.1 4220)) kX13_isUnder_c1.2.2.2.2.1 ow_12_0_148 oa_12_0_148 ot_0 h (fun h => ?_)
      refine kz_sti_n (M := kt_M449) [(0, .ref (w_adr E.2.1 12 0)), (2, .int x2)] kX13_isUnder_c1.2.2.2.2.2.1 (Nat.le_of_ble_eq_true rfl) ⟨⟨rfl, rfl, .inl rfl⟩, ⟨⟨rfl, rfl, .inr rfl⟩, trivial⟩⟩ rfl ?_
      refine kz_goto (M := kt_M449) kX13_isUnder_c1.2.2.2.2.2.2.1 (t := 2) rfl ?_
      exact kz_weak [(0, .ref (w_adr E.2.1 12 0)), (2, .int x2), (3, .int (w_a w 12 0 148 (x3).toNatClampNeg))] ⟨rfl, ⟨rfl, ⟨rfl, trivial⟩⟩⟩ rfl h
    · skip
      refine kz_ic (M := kt_M449) 1 kX13_isUnder_c0.2.2.2.2.2.2.2.1 rfl ?_
      exact kz_iretz (M := kt_M449) kX13_isUnder_c1.1 rfl (by decide) h
def zb_X13_isUnder_p0 (E : zE) (L : Nat) (Q : kx_Rs → wS → Prop) (x1 : Int32) (x2 : Int32) (w : wS) : Prop := zL_X13_isUnder_p2 E L Q x2 x1 w
theorem zt_X13_isUnder_p0 {E : zE} {L : Nat} {Q : kx_Rs → wS → Prop} {x1 : Int32} {x2 : Int32} {w : wS} (hL : 19 ≤ L) (h : zb_X13_isUnder_p0 E L Q x1 x2 w) : kzE E L kt_M449 0 [(0, .ref (w_adr E.2.1 12 0)), (1, .int x1), (2, .int x2)] [] w Q := by
  unfold zb_X13_isUnder_p0 at h
  refine kz_iload_n (M := kt_M449) kX13_isUnder_c0.1 rfl ?_
  refine kz_sti_n (M := kt_M449) [(0, .ref (w_adr E.2.1 12 0)), (2, .int x2)] kX13_isUnder_c0.2.1 (Nat.le_of_ble_eq_true rfl) ⟨⟨rfl, rfl, .inl rfl⟩, ⟨⟨rfl, rfl, .inr rfl⟩, trivial⟩⟩ rfl ?_
  exact kz_weak [(0, .ref (w_adr E.2.1 12 0)), (2, .int x2), (3, .int x1)] ⟨rfl, ⟨rfl, ⟨rfl, trivial⟩⟩⟩ rfl h
def zL_X13_hasOption_p7 (E : zE) (L : Nat) (Q : kx_Rs → wS → Prop) (x2 : Int32) (x3 : Int32) (w : wS) : Prop := kzE E L kt_M426 7 [(0, .ref (w_adr E.2.1 12 0)), (2, .int x2), (3, .int x3)] [] w Q
def zb_X13_hasOption_p7 (E : zE) (L : Nat) (Q : kx_Rs → wS → Prop) (x2 : Int32) (x3 : Int32) (w : wS) : Prop := (if x3 < 0 then Q (.inl (some (.int 0))) w else zw E (L - 24) kt_M377 [.ref (w_adr E.2.1 12 0), .int x3] w (wk1 (fun v2 w1 => wle w w1 → (if ¬ v2 = x2 then (kx_inb x3 (w_n w1 12 0 32) = true ∧ zL_X13_hasOption_p7 E L Q x2 (w_a w1 12 0 32 (x3).toNatClampNeg) w1) else Q (.inl (some (.int 1))) w1)) (fun e w => Q (.inr e) w)))
theorem zt_X13_hasOption_p7 {E : zE} {L : Nat} {Q : kx_Rs → wS → Prop} {x2 : Int32} {x3 : Int32} {w : wS} (hL : 24 ≤ L) (h : zb_X13_hasOption_p7 E L Q x2 x3 w) : kzE E L kt_M426 7 [(0, .ref (w_adr E.2.1 12 0)), (2, .int x2), (3, .int x3)] [] w Q := by
  unfold zb_X13_hasOption_p7 at h
  refine kz_iload_n (M := kt_M426) kX13_hasOption_c0.2.2.2.2.2.1 rfl ?_
  refine kz_if_lt (M := kt_M426) kX13_hasOption_c0.2.2.2.2.2.2.1 (t := 32) rfl h (fun h => ?_) (fun h => ?_)
  · skip
    refine kz_ic (M := kt_M426) 0 kX13_hasOption_c2.2.2.2.2.1 rfl ?_
    exact kz_iretz (M := kt_M426) kX13_hasOption_c2.2.2.2.2.2.1 rfl (by decide) h
  · skip
    refine kz_aload_n (M := kt_M426) kX13_hasOption_c0.2.2.2.2.2.2.2.1 rfl ?_
    refine kz_iload_n (M := kt_M426) kX13_hasOption_c1.1 rfl ?_
    refine kz_cv1 (M := kt_M426) (c := 12) (o := 0) (As := [.int x3]) (rest := []) kX13_hasOption_c1.2.1 wl_X13_824 wMv_377 rfl (.inl rfl) rfl (Nat.le_trans (Nat.le_of_ble_eq_true rfl) hL) (Nat.le_of_ble_eq_true rfl) (Nat.le_of_ble_eq_true rfl) h (fun v2 w1 hle h => ?_) (fun _ _ _ h => kzx_no rfl h)
    have h := h hle
    refine kz_iload_n (M := kt_M426) kX13_hasOption_c1.2.2.1 rfl ?_
    refine kz_icmp_ne (M := kt_M426) kX13_hasOption_c1.2.2.2.1 (t := 22) rfl h (fun h => ?_) (fun h => ?_)
    · skip
      refine kz_aload_n (M := kt_M426) kX13_hasOption_c1.2.2.2.2.2.2.1 rfl ?_
      refine kz_gfc (M := kt_M426) (x := 4104) (c := 12) (o := 0) kX13_hasOption_c1.2.2.2.2.2.2.2.1 wf_X13_205 (.inl rfl) ?_
      refine kz_iload_n (M := kt_M426) kX13_hasOption_c2.1 rfl ?_
      refine kz_iald (M := kt_M426) (c := 12) (o := 0) (k := 32) (a := (E.2.1 4104)) kX13_hasOption_c2.2.1 ow_12_0_32 oa_12_0_32 ot_0 h (fun h => ?_)
      refine kz_sti_n (M := kt_M426) [(0, .ref (w_adr E.2.1 12 0)), (2, .int x2)] kX13_hasOption_c2.2.2.1 (Nat.le_of_ble_eq_true rfl) ⟨⟨rfl, rfl, .inl rfl⟩, ⟨⟨rfl, rfl, .inr rfl⟩, trivial⟩⟩ rfl ?_
      refine kz_goto (M := kt_M426) kX13_hasOption_c2.2.2.2.1 (t := 7) rfl ?_
      exact kz_weak [(0, .ref (w_adr E.2.1 12 0)), (2, .int x2), (3, .int (w_a w1 12 0 32 (x3).toNatClampNeg))] ⟨rfl, ⟨rfl, ⟨rfl, trivial⟩⟩⟩ rfl h
    · skip
      refine kz_ic (M := kt_M426) 1 kX13_hasOption_c1.2.2.2.2.1 rfl ?_
      exact kz_iretz (M := kt_M426) kX13_hasOption_c1.2.2.2.2.2.1 rfl (by decide) h
def zb_X13_hasOption_p0 (E : zE) (L : Nat) (Q : kx_Rs → wS → Prop) (x1 : Int32) (x2 : Int32) (w : wS) : Prop := (kx_inb x1 (w_n w 12 0 28) = true ∧ zL_X13_hasOption_p7 E L Q x2 (w_a w 12 0 28 (x1).toNatClampNeg) w)
theorem zt_X13_hasOption_p0 {E : zE} {L : Nat} {Q : kx_Rs → wS → Prop} {x1 : Int32} {x2 : Int32} {w : wS} (hL : 24 ≤ L) (h : zb_X13_hasOption_p0 E L Q x1 x2 w) : kzE E L kt_M426 0 [(0, .ref (w_adr E.2.1 12 0)), (1, .int x1), (2, .int x2)] [] w Q := by
  unfold zb_X13_hasOption_p0 at h
  refine kz_aload_n (M := kt_M426) kX13_hasOption_c0.1 rfl ?_
  refine kz_gfc (M := kt_M426) (x := 4100) (c := 12) (o := 0) kX13_hasOption_c0.2.1 wf_X13_193 (.inl rfl) ?_
  refine kz_iload_n (M := kt_M426) kX13_hasOption_c0.2.2.1 rfl ?_
  refine kz_iald (M := kt_M426) (c := 12) (o := 0) (k := 28) (a := (E.2.1 4100)) kX13_hasOption_c0.2.2.2.1 ow_12_0_28 oa_12_0_28 ot_0 h (fun h => ?_)
  refine kz_sti_n (M := kt_M426) [(0, .ref (w_adr E.2.1 12 0)), (2, .int x2)] kX13_hasOption_c0.2.2.2.2.1 (Nat.le_of_ble_eq_true rfl) ⟨⟨rfl, rfl, .inl rfl⟩, ⟨⟨rfl, rfl, .inr rfl⟩, trivial⟩⟩ rfl ?_
  exact kz_weak [(0, .ref (w_adr E.2.1 12 0)), (2, .int x2), (3, .int (w_a w 12 0 28 (x1).toNatClampNeg))] ⟨rfl, ⟨rfl, ⟨rfl, trivial⟩⟩⟩ rfl h
def zb_X13_callProc_p0 (E : zE) (L : Nat) (Q : kx_Rs → wS → Prop) (x1 : Int32) (w : wS) : Prop := (kx_inb x1 (w_n w 12 0 31) = true ∧ (kx_inb (w_a w 12 0 31 (x1).toNatClampNeg) (w_n w 12 0 49) = true ∧ (kx_inb (w_a w 12 0 49 (w_a w 12 0 31 (x1).toNatClampNeg).toNatClampNeg) (w_n w 12 0 63) = true ∧ (kx_inb (w_a w 12 0 49 (w_a w 12 0 31 (x1).toNatClampNeg).toNatClampNeg) (w_n w 12 0 63) = true ∧ (kx_inb (w_a w 12 0 63 (w_a w 12 0 49 (w_a w 12 0 31 (x1).toNatClampNeg).toNatClampNeg).toNatClampNeg) (w_n w 12 0 60) = true ∧ zw E (L - 22) kt_M415 [.ref (w_adr E.2.1 12 0), .int (w_a w 12 0 60 (w_a w 12 0 63 (w_a w 12 0 49 (w_a w 12 0 31 (x1).toNatClampNeg).toNatClampNeg).toNatClampNeg).toNatClampNeg)] w (wk1 (fun v2 w1 => wle w w1 → zw E (L - 23) kt_M490 [.ref (w_adr E.2.1 12 0), .int (w_a w 12 0 63 (w_a w 12 0 49 (w_a w 12 0 31 (x1).toNatClampNeg).toNatClampNeg).toNatClampNeg), .int v2] w1 (wk1 (fun v4 w3 => wle w1 w3 → (kx_inb x1 (w_n w3 12 0 28) = true ∧ zw E (L - 27) kt_M360 [.ref (w_adr E.2.1 12 0), .int (w_a w3 12 0 28 (x1).toNatClampNeg), .int (w_a w 12 0 49 (w_a w 12 0 31 (x1).toNatClampNeg).toNatClampNeg), .int v4] w3 (wk0 (fun w5 => wle w3 w5 → (kx_inb (w_i w5 12 0 161) (w_n w5 12 0 160) = true ∧ (if ¬ w_a w5 12 0 160 (w_i w5 12 0 161).toNatClampNeg = 60 then (kx_inb (w_i w5 12 0 161) (w_n w5 12 0 160) = true ∧ (kx_inb (w_i w5 12 0 161) (w_n w5 12 0 160) = true ∧ zw E (L - 21) kt_M511 [.ref (w_adr E.2.1 12 0)] (ws_a w5 12 0 160 (w_i w5 12 0 161).toNatClampNeg ((w_a w5 12 0 160 (w_i w5 12 0 161).toNatClampNeg) + 1)) (wk0 (fun w7 => wle (ws_a w5 12 0 160 (w_i w5 12 0 161).toNatClampNeg ((w_a w5 12 0 160 (w_i w5 12 0 161).toNatClampNeg) + 1)) w7 → zw E (L - 25) kt_M518 [.ref (w_adr E.2.1 12 0), .int 3, .int (w_a w 12 0 49 (w_a w 12 0 31 (x1).toNatClampNeg).toNatClampNeg), .int (w_i w7 12 0 162), .int 0] w7 (wk0 (fun w9 => wle w7 w9 → (kx_inb (w_a w 12 0 49 (w_a w 12 0 31 (x1).toNatClampNeg).toNatClampNeg) (w_n w9 12 0 29) = true ∧ zw E (L - 25) kt_M518 [.ref (w_adr E.2.1 12 0), .int 0, .int (w_a w9 12 0 29 (w_a w 12 0 49 (w_a w 12 0 31 (x1).toNatClampNeg).toNatClampNeg).toNatClampNeg), .int 0, .int 0] (ws_i w9 12 0 162 v4) (wk0 (fun w11 => wle (ws_i w9 12 0 162 v4) w11 → Q (.inl none) w11) (fun e w => Q (.inr e) w)))) (fun e w => Q (.inr e) w))) (fun e w => Q (.inr e) w)))) else zw E (L - 21) kt_M408 [.ref (w_adr E.2.1 12 0), .int 10] w5 (wkr (fun v14 w13 => wle w5 w13 → (v14 = some (w_adr E.2.1 13 0) ∧ Q (.inr "MeetingHouseModel$Halt") w13)) (fun e w => Q (.inr e) w))))) (fun e w => Q (.inr e) w)))) (fun e w => Q (.inr e) w))) (fun e w => Q (.inr e) w)))))))
theorem zt_X13_callProc_p0 {E : zE} {L : Nat} {Q : kx_Rs → wS → Prop} {x1 : Int32} {w : wS} (hL : 27 ≤ L) (h : zb_X13_callProc_p0 E L Q x1 w) : kzE E L kt_M364 0 [(0, .ref (w_adr E.2.1 12 0)), (1, .int x1)] [] w Q := by
  unfold zb_X13_callProc_p0 at h
  refine kz_aload_n (M := kt_M364) kX13_callProc_c0.1 rfl ?_
  refine kz_gfc (M := kt_M364) (x := 4121) (c := 12) (o := 0) kX13_callProc_c0.2.1 wf_X13_232 (.inl rfl) ?_
  refine kz_aload_n (M := kt_M364) kX13_callProc_c0.2.2.1 rfl ?_
  refine kz_gfc (M := kt_M364) (x := 4103) (c := 12) (o := 0) kX13_callProc_c0.2.2.2.1 wf_X13_202 (.inl rfl) ?_
  refine kz_iload_n (M := kt_M364) kX13_callProc_c0.2.2.2.2.1 rfl ?_
  refine kz_iald (M := kt_M364) (c := 12) (o := 0) (k := 31) (a := (E.2.1 4103)) kX13_callProc_c0.2.2.2.2.2.1 ow_12_0_31 oa_12_0_31 ot_0 h (fun h => ?_)
  refine kz_iald (M := kt_M364) (c := 12) (o := 0) (k := 49) (a := (E.2.1 4121)) kX13_callProc_c0.2.2.2.2.2.2.1 ow_12_0_49 oa_12_0_49 ot_0 h (fun h => ?_)
  refine kz_sti_n (M := kt_M364) [(0, .ref (w_adr E.2.1 12 0)), (1, .int x1)] kX13_callProc_c0.2.2.2.2.2.2.2.1 (Nat.le_of_ble_eq_true rfl) ⟨⟨rfl, rfl, .inl rfl⟩, ⟨⟨rfl, rfl, .inr rfl⟩, trivial⟩⟩ rfl ?_
  refine kz_aload_n (M := kt_M364) kX13_callProc_c1.1 rfl ?_
  refine kz_aload_n (M := kt_M364) kX13_callProc_c1.2.1 rfl ?_
  refine kz_gfc (M := kt_M364) (x := 4135) (c := 12) (o := 0) kX13_callProc_c1.2.2.1 wf_X13_263 (.inl rfl) ?_
  refine kz_iload_n (M := kt_M364) kX13_callProc_c1.2.2.2.1 rfl ?_
  refine kz_iald (M := kt_M364) (c := 12) (o := 0) (k := 63) (a := (E.2.1 4135)) kX13_callProc_c1.2.2.2.2.1 ow_12_0_63 oa_12_0_63 ot_0 h (fun h => ?_)
  refine kz_aload_n (M := kt_M364) kX13_callProc_c1.2.2.2.2.2.1 rfl ?_
  refine kz_aload_n (M := kt_M364) kX13_callProc_c1.2.2.2.2.2.2.1 rfl ?_
  refine kz_gfc (M := kt_M364) (x := 4132) (c := 12) (o := 0) kX13_callProc_c1.2.2.2.2.2.2.2.1 wf_X13_257 (.inl rfl) ?_
  refine kz_aload_n (M := kt_M364) kX13_callProc_c2.1 rfl ?_
  refine kz_gfc (M := kt_M364) (x := 4135) (c := 12) (o := 0) kX13_callProc_c2.2.1 wf_X13_263 (.inl rfl) ?_
  refine kz_iload_n (M := kt_M364) kX13_callProc_c2.2.2.1 rfl ?_
  refine kz_iald (M := kt_M364) (c := 12) (o := 0) (k := 63) (a := (E.2.1 4135)) kX13_callProc_c2.2.2.2.1 ow_12_0_63 oa_12_0_63 ot_0 h (fun h => ?_)
  refine kz_iald (M := kt_M364) (c := 12) (o := 0) (k := 60) (a := (E.2.1 4132)) kX13_callProc_c2.2.2.2.2.1 ow_12_0_60 oa_12_0_60 ot_0 h (fun h => ?_)
  refine kz_cv1 (M := kt_M364) (c := 12) (o := 0) (As := [.int (w_a w 12 0 60 (w_a w 12 0 63 (w_a w 12 0 49 (w_a w 12 0 31 (x1).toNatClampNeg).toNatClampNeg).toNatClampNeg).toNatClampNeg)]) (rest := [.int (w_a w 12 0 63 (w_a w 12 0 49 (w_a w 12 0 31 (x1).toNatClampNeg).toNatClampNeg).toNatClampNeg), .ref (w_adr E.2.1 12 0)]) kX13_callProc_c2.2.2.2.2.2.1 wl_X13_1183 wMv_415 rfl (.inl rfl) rfl (Nat.le_trans (Nat.le_of_ble_eq_true rfl) hL) (Nat.le_of_ble_eq_true rfl) (Nat.le_of_ble_eq_true rfl) h (fun v2 w1 hle h => ?_) (fun _ _ _ h => kzx_no rfl h)
  have h := h hle
  refine kz_cv1 (M := kt_M364) (c := 12) (o := 0) (As := [.int (w_a w 12 0 63 (w_a w 12 0 49 (w_a w 12 0 31 (x1).toNatClampNeg).toNatClampNeg).toNatClampNeg), .int v2]) (rest := []) kX13_callProc_c2.2.2.2.2.2.2.1 wl_X13_1263 wMv_490 rfl (.inl rfl) rfl (Nat.le_trans (Nat.le_of_ble_eq_true rfl) hL) (Nat.le_of_ble_eq_true rfl) (Nat.le_of_ble_eq_true rfl) h (fun v4 w3 hle h => ?_) (fun _ _ _ h => kzx_no rfl h)
  have h := h hle
  refine kz_sti_n (M := kt_M364) [(0, .ref (w_adr E.2.1 12 0)), (1, .int x1), (2, .int (w_a w 12 0 49 (w_a w 12 0 31 (x1).toNatClampNeg).toNatClampNeg))] kX13_callProc_c2.2.2.2.2.2.2.2.1 (Nat.le_of_ble_eq_true rfl) ⟨⟨rfl, rfl, .inl rfl⟩, ⟨⟨rfl, rfl, .inl rfl⟩, ⟨⟨rfl, rfl, .inr rfl⟩, trivial⟩⟩⟩ rfl ?_
  refine kz_aload_n (M := kt_M364) kX13_callProc_c3.1 rfl ?_
  refine kz_aload_n (M := kt_M364) kX13_callProc_c3.2.1 rfl ?_
  refine kz_gfc (M := kt_M364) (x := 4100) (c := 12) (o := 0) kX13_callProc_c3.2.2.1 wf_X13_193 (.inl rfl) ?_
  refine kz_iload_n (M := kt_M364) kX13_callProc_c3.2.2.2.1 rfl ?_
  refine kz_iald (M := kt_M364) (c := 12) (o := 0) (k := 28) (a := (E.2.1 4100)) kX13_callProc_c3.2.2.2.2.1 ow_12_0_28 oa_12_0_28 ot_0 h (fun h => ?_)
  refine kz_iload_n (M := kt_M364) kX13_callProc_c3.2.2.2.2.2.1 rfl ?_
  refine kz_iload_n (M := kt_M364) kX13_callProc_c3.2.2.2.2.2.2.1 rfl ?_
  refine kz_cv0 (M := kt_M364) (c := 12) (o := 0) (As := [.int (w_a w3 12 0 28 (x1).toNatClampNeg), .int (w_a w 12 0 49 (w_a w 12 0 31 (x1).toNatClampNeg).toNatClampNeg), .int v4]) (rest := []) kX13_callProc_c3.2.2.2.2.2.2.2.1 wl_X13_1266 wMv_360 rfl (.inl rfl) rfl (Nat.le_trans (Nat.le_of_ble_eq_true rfl) hL) (Nat.le_of_ble_eq_true rfl) (Nat.le_of_ble_eq_true rfl) h (fun w5 hle h => ?_) (fun _ _ _ h => kzx_no rfl h)
  have h := h hle
  refine kz_aload_n (M := kt_M364) kX13_callProc_c4.1 rfl ?_
  refine kz_gfc (M := kt_M364) (x := 4232) (c := 12) (o := 0) kX13_callProc_c4.2.1 wf_X13_433 (.inl rfl) ?_
  refine kz_aload_n (M := kt_M364) kX13_callProc_c4.2.2.1 rfl ?_
  refine kz_gfi (M := kt_M364) (c := 12) (o := 0) kX13_callProc_c4.2.2.2.1 wf_X13_1168 (.inl rfl) ?_
  refine kz_iald (M := kt_M364) (c := 12) (o := 0) (k := 160) (a := (E.2.1 4232)) kX13_callProc_c4.2.2.2.2.1 ow_12_0_160 oa_12_0_160 ot_0 h (fun h => ?_)
  refine kz_bi (M := kt_M364) 60 kX13_callProc_c4.2.2.2.2.2.1 rfl ?_
  refine kz_icmp_ne (M := kt_M364) kX13_callProc_c4.2.2.2.2.2.2.1 (t := 71) rfl h (fun h => ?_) (fun h => ?_)
  · skip
    refine kz_aload_n (M := kt_M364) kX13_callProc_c5.2.2.2.1 rfl ?_
    refine kz_gfc (M := kt_M364) (x := 4232) (c := 12) (o := 0) kX13_callProc_c5.2.2.2.2.1 wf_X13_433 (.inl rfl) ?_
    refine kz_aload_n (M := kt_M364) kX13_callProc_c5.2.2.2.2.2.1 rfl ?_
    refine kz_gfi (M := kt_M364) (c := 12) (o := 0) kX13_callProc_c5.2.2.2.2.2.2.1 wf_X13_1168 (.inl rfl) ?_
    refine kz_dup2 (M := kt_M364) kX13_callProc_c5.2.2.2.2.2.2.2.1 ⟨rfl, rfl⟩ ?_
    refine kz_iald (M := kt_M364) (c := 12) (o := 0) (k := 160) (a := (E.2.1 4232)) kX13_callProc_c6.1 ow_12_0_160 oa_12_0_160 ot_0 h (fun h => ?_)
    refine kz_ic (M := kt_M364) 1 kX13_callProc_c6.2.1 rfl ?_
    refine kz_iadd (M := kt_M364) kX13_callProc_c6.2.2.1 ?_
    refine kz_iast (M := kt_M364) (c := 12) (o := 0) (k := 160) (a := (E.2.1 4232)) kX13_callProc_c6.2.2.2.1 ow_12_0_160 oa_12_0_160 ot_0 h (fun h => ?_)
    refine kz_aload_n (M := kt_M364) kX13_callProc_c6.2.2.2.2.1 rfl ?_
    refine kz_cv0 (M := kt_M364) (c := 12) (o := 0) (As := []) (rest := []) kX13_callProc_c6.2.2.2.2.2.1 wl_X13_1290 wMv_511 rfl (.inl rfl) rfl (Nat.le_trans (Nat.le_of_ble_eq_true rfl) hL) (Nat.le_of_ble_eq_true rfl) (Nat.le_of_ble_eq_true rfl) h (fun w7 hle h => ?_) (fun _ _ _ h => kzx_no rfl h)
    have h := h hle
    refine kz_aload_n (M := kt_M364) kX13_callProc_c6.2.2.2.2.2.2.1 rfl ?_
    refine kz_ic (M := kt_M364) 3 kX13_callProc_c6.2.2.2.2.2.2.2.1 rfl ?_
    refine kz_iload_n (M := kt_M364) kX13_callProc_c7.1 rfl ?_
    refine kz_aload_n (M := kt_M364) kX13_callProc_c7.2.1 rfl ?_
    refine kz_gfi (M := kt_M364) (c := 12) (o := 0) kX13_callProc_c7.2.2.1 wf_X13_1171 (.inl rfl) ?_
    refine kz_ic (M := kt_M364) 0 kX13_callProc_c7.2.2.2.1 rfl ?_
    refine kz_cv0 (M := kt_M364) (c := 12) (o := 0) (As := [.int 3, .int (w_a w 12 0 49 (w_a w 12 0 31 (x1).toNatClampNeg).toNatClampNeg), .int (w_i w7 12 0 162), .int 0]) (rest := []) kX13_callProc_c7.2.2.2.2.1 wl_X13_1278 wMv_518 rfl (.inl rfl) rfl (Nat.le_trans (Nat.le_of_ble_eq_true rfl) hL) (Nat.le_of_ble_eq_true rfl) (Nat.le_of_ble_eq_true rfl) h (fun w9 hle h => ?_) (fun _ _ _ h => kzx_no rfl h)
    have h := h hle
    refine kz_aload_n (M := kt_M364) kX13_callProc_c7.2.2.2.2.2.1 rfl ?_
    refine kz_iload_n (M := kt_M364) kX13_callProc_c7.2.2.2.2.2.2.1 rfl ?_
    refine kz_pfi (M := kt_M364) (c := 12) (o := 0) kX13_callProc_c7.2.2.2.2.2.2.2.1 wq_X13_1171 (.inl rfl) ?_
    refine kz_aload_n (M := kt_M364) kX13_callProc_c8.1 rfl ?_
    refine kz_ic (M := kt_M364) 0 kX13_callProc_c8.2.1 rfl ?_
    refine kz_aload_n (M := kt_M364) kX13_callProc_c8.2.2.1 rfl ?_
    refine kz_gfc (M := kt_M364) (x := 4101) (c := 12) (o := 0) kX13_callProc_c8.2.2.2.1 wf_X13_196 (.inl rfl) ?_
    refine kz_iload_n (M := kt_M364) kX13_callProc_c8.2.2.2.2.1 rfl ?_
    refine kz_ialdR (M := kt_M364) (n := w_n w9 12 0 29) (c := 12) (o := 0) (k := 29) (a := (E.2.1 4101)) (w_a w9 12 0 29 (w_a w 12 0 49 (w_a w 12 0 31 (x1).toNatClampNeg).toNatClampNeg).toNatClampNeg) kX13_callProc_c8.2.2.2.2.2.1 ow_12_0_29 oa_12_0_29 ot_0 rd_n_i rd_a_i h (fun h => ?_)
    refine kz_ic (M := kt_M364) 0 kX13_callProc_c8.2.2.2.2.2.2.1 rfl ?_
    refine kz_ic (M := kt_M364) 0 kX13_callProc_c8.2.2.2.2.2.2.2.1 rfl ?_
    refine kz_cv0 (M := kt_M364) (c := 12) (o := 0) (As := [.int 0, .int (w_a w9 12 0 29 (w_a w 12 0 49 (w_a w 12 0 31 (x1).toNatClampNeg).toNatClampNeg).toNatClampNeg), .int 0, .int 0]) (rest := []) kX13_callProc_c9.1 wl_X13_1278 wMv_518 rfl (.inl rfl) rfl (Nat.le_trans (Nat.le_of_ble_eq_true rfl) hL) (Nat.le_of_ble_eq_true rfl) (Nat.le_of_ble_eq_true rfl) h (fun w11 hle h => ?_) (fun _ _ _ h => kzx_no rfl h)
    have h := h hle
    exact kz_ret (M := kt_M364) kX13_callProc_c9.2.1 rfl h
  · skip
    refine kz_aload_n (M := kt_M364) kX13_callProc_c4.2.2.2.2.2.2.2.1 rfl ?_
    refine kz_bi (M := kt_M364) 10 kX13_callProc_c5.1 rfl ?_
    refine kz_cvr (M := kt_M364) (c := 12) (o := 0) (As := [.int 10]) (rest := []) kX13_callProc_c5.2.1 wl_X13_839 wMv_408 rfl (.inl rfl) rfl (Nat.le_trans (Nat.le_of_ble_eq_true rfl) hL) (Nat.le_of_ble_eq_true rfl) (Nat.le_of_ble_eq_true rfl) h (fun v14 w13 hle h => ?_) (fun _ _ _ h => kzx_no rfl h)
    have h := h hle
    exact kz_throw (M := kt_M364) (c := 13) (o := 0) kX13_callProc_c5.2.2.1 rfl (.inl rfl) h (fun h => kzx_no rfl h)
def zb_X13_talk_p0 (E : zE) (L : Nat) (Q : kx_Rs → wS → Prop) (x1 : Int32) (w : wS) : Prop := (kx_inb x1 (w_n w 12 0 26) = true ∧ (if w_a w 12 0 26 (x1).toNatClampNeg = 6 then zw E (L - 22) kt_M348 [.ref (w_adr E.2.1 12 0), .int x1] w (wk0 (fun w1 => wle w w1 → Q (.inl none) w1) (fun e w => Q (.inr e) w)) else (if w_a w 12 0 26 (x1).toNatClampNeg = 8 then zw E (L - 31) kt_M558 [.ref (w_adr E.2.1 12 0), .int x1] w (wk0 (fun w3 => wle w w3 → Q (.inl none) w3) (fun e w => Q (.inr e) w)) else (if w_a w 12 0 26 (x1).toNatClampNeg = 11 then zw E (L - 28) kt_M501 [.ref (w_adr E.2.1 12 0), .int x1] w (wk0 (fun w5 => wle w w5 → Q (.inl none) w5) (fun e w => Q (.inr e) w)) else (if w_a w 12 0 26 (x1).toNatClampNeg = 17 then zw E (L - 25) kt_M351 [.ref (w_adr E.2.1 12 0), .int x1] w (wk0 (fun w7 => wle w w7 → Q (.inl none) w7) (fun e w => Q (.inr e) w)) else zw E (L - 23) kt_M353 [.ref (w_adr E.2.1 12 0), .int x1] w (wk0 (fun w9 => wle w w9 → Q (.inl none) w9) (fun e w => Q (.inr e) w)))))))
theorem zt_X13_talk_p0 {E : zE} {L : Nat} {Q : kx_Rs → wS → Prop} {x1 : Int32} {w : wS} (hL : 31 ≤ L) (h : zb_X13_talk_p0 E L Q x1 w) : kzE E L kt_M556 0 [(0, .ref (w_adr E.2.1 12 0)), (1, .int x1)] [] w Q := by
  unfold zb_X13_talk_p0 at h
  refine kz_aload_n (M := kt_M556) kX13_talk_c0.1 rfl ?_
  refine kz_gfc (M := kt_M556) (x := 4098) (c := 12) (o := 0) kX13_talk_c0.2.1 wf_X13_187 (.inl rfl) ?_
  refine kz_iload_n (M := kt_M556) kX13_talk_c0.2.2.1 rfl ?_
  refine kz_iald (M := kt_M556) (c := 12) (o := 0) (k := 26) (a := (E.2.1 4098)) kX13_talk_c0.2.2.2.1 ow_12_0_26 oa_12_0_26 ot_0 h (fun h => ?_)
  refine kz_lsw (M := kt_M556) [(6, 54), (8, 60), (11, 48), (17, 66)] [_, _, _, _] 72 dX13_talk_p6 (by decide +kernel) (by decide +kernel) h ⟨fun h => ?_, fun h => ?_, fun h => ?_, fun h => ?_, trivial⟩ (fun h => ?_)
  · skip
    refine kz_aload_n (M := kt_M556) kX13_talk_c1.2.1 rfl ?_
    refine kz_iload_n (M := kt_M556) kX13_talk_c1.2.2.1 rfl ?_
    refine kz_cv0 (M := kt_M556) (c := 12) (o := 0) (As := [.int x1]) (rest := []) kX13_talk_c1.2.2.2.1 wl_X13_1373 wMv_348 rfl (.inl rfl) rfl (Nat.le_trans (Nat.le_of_ble_eq_true rfl) hL) (Nat.le_of_ble_eq_true rfl) (Nat.le_of_ble_eq_true rfl) h (fun w1 hle h => ?_) (fun _ _ _ h => kzx_no rfl h)
    have h := h hle
    exact kz_ret (M := kt_M556) kX13_talk_c1.2.2.2.2.1 rfl h
  · skip
    refine kz_aload_n (M := kt_M556) kX13_talk_c1.2.2.2.2.2.1 rfl ?_
    refine kz_iload_n (M := kt_M556) kX13_talk_c1.2.2.2.2.2.2.1 rfl ?_
    refine kz_cv0 (M := kt_M556) (c := 12) (o := 0) (As := [.int x1]) (rest := []) kX13_talk_c1.2.2.2.2.2.2.2.1 wl_X13_1376 wMv_558 rfl (.inl rfl) rfl (Nat.le_trans (Nat.le_of_ble_eq_true rfl) hL) (Nat.le_of_ble_eq_true rfl) (Nat.le_of_ble_eq_true rfl) h (fun w3 hle h => ?_) (fun _ _ _ h => kzx_no rfl h)
    have h := h hle
    exact kz_ret (M := kt_M556) kX13_talk_c2.1 rfl h
  · skip
    refine kz_aload_n (M := kt_M556) kX13_talk_c0.2.2.2.2.2.1 rfl ?_
    refine kz_iload_n (M := kt_M556) kX13_talk_c0.2.2.2.2.2.2.1 rfl ?_
    refine kz_cv0 (M := kt_M556) (c := 12) (o := 0) (As := [.int x1]) (rest := []) kX13_talk_c0.2.2.2.2.2.2.2.1 wl_X13_1370 wMv_501 rfl (.inl rfl) rfl (Nat.le_trans (Nat.le_of_ble_eq_true rfl) hL) (Nat.le_of_ble_eq_true rfl) (Nat.le_of_ble_eq_true rfl) h (fun w5 hle h => ?_) (fun _ _ _ h => kzx_no rfl h)
    have h := h hle
    exact kz_ret (M := kt_M556) kX13_talk_c1.1 rfl h
  · skip
    refine kz_aload_n (M := kt_M556) kX13_talk_c2.2.1 rfl ?_
    refine kz_iload_n (M := kt_M556) kX13_talk_c2.2.2.1 rfl ?_
    refine kz_cv0 (M := kt_M556) (c := 12) (o := 0) (As := [.int x1]) (rest := []) kX13_talk_c2.2.2.2.1 wl_X13_1379 wMv_351 rfl (.inl rfl) rfl (Nat.le_trans (Nat.le_of_ble_eq_true rfl) hL) (Nat.le_of_ble_eq_true rfl) (Nat.le_of_ble_eq_true rfl) h (fun w7 hle h => ?_) (fun _ _ _ h => kzx_no rfl h)
    have h := h hle
    exact kz_ret (M := kt_M556) kX13_talk_c2.2.2.2.2.1 rfl h
  · skip
    refine kz_aload_n (M := kt_M556) kX13_talk_c2.2.2.2.2.2.1 rfl ?_
    refine kz_iload_n (M := kt_M556) kX13_talk_c2.2.2.2.2.2.2.1 rfl ?_
    refine kz_cv0 (M := kt_M556) (c := 12) (o := 0) (As := [.int x1]) (rest := []) kX13_talk_c2.2.2.2.2.2.2.2.1 wl_X13_1382 wMv_353 rfl (.inl rfl) rfl (Nat.le_trans (Nat.le_of_ble_eq_true rfl) hL) (Nat.le_of_ble_eq_true rfl) (Nat.le_of_ble_eq_true rfl) h (fun w9 hle h => ?_) (fun _ _ _ h => kzx_no rfl h)
    have h := h hle
    exact kz_ret (M := kt_M556) kX13_talk_c3.1 rfl h
def zL_X13_par_p118 (E : zE) (L : Nat) (Q : kx_Rs → wS → Prop) (x1 : Int32) (x2 : Int32) (x3 : Int32) (x4 : Int32) (x5 : Int32) (x6 : Int32) (w : wS) : Prop := kzE E L kt_M501 118 [(0, .ref (w_adr E.2.1 12 0)), (1, .int x1), (2, .int x2), (3, .int x3), (4, .int x4), (5, .int x5), (6, .int x6)] [] w Q
def zL_X13_par_p33 (E : zE) (L : Nat) (Q : kx_Rs → wS → Prop) (x1 : Int32) (x2 : Int32) (x3 : Int32) (w : wS) : Prop := kzE E L kt_M501 33 [(0, .ref (w_adr E.2.1 12 0)), (1, .int x1), (2, .int x2), (3, .int x3)] [] w Q
def zb_X13_par_p268 (E : zE) (L : Nat) (Q : kx_Rs → wS → Prop) (x1 : Int32) (w : wS) : Prop := (kx_inb x1 (w_n w 12 0 27) = true ∧ Q (.inl none) (ws_i w 12 0 164 (w_a w 12 0 27 (x1).toNatClampNeg)))
theorem zt_X13_par_p268 {E : zE} {L : Nat} {Q : kx_Rs → wS → Prop} {x1 : Int32} {w : wS} (hL : 24 ≤ L) (h : zb_X13_par_p268 E L Q x1 w) : kzE E L kt_M501 268 [(0, .ref (w_adr E.2.1 12 0)), (1, .int x1)] [] w Q := by
  unfold zb_X13_par_p268 at h
  refine kz_aload_n (M := kt_M501) kX13_par_c19.2.1 rfl ?_
  refine kz_aload_n (M := kt_M501) kX13_par_c19.2.2.1 rfl ?_
  refine kz_gfc (M := kt_M501) (x := 4099) (c := 12) (o := 0) kX13_par_c19.2.2.2.1 wf_X13_190 (.inl rfl) ?_
  refine kz_iload_n (M := kt_M501) kX13_par_c19.2.2.2.2.1 rfl ?_
  refine kz_iald (M := kt_M501) (c := 12) (o := 0) (k := 27) (a := (E.2.1 4099)) kX13_par_c19.2.2.2.2.2.1 ow_12_0_27 oa_12_0_27 ot_0 h (fun h => ?_)
  refine kz_pfi (M := kt_M501) (c := 12) (o := 0) kX13_par_c19.2.2.2.2.2.2.1 wq_X13_1302 (.inl rfl) ?_
  exact kz_ret (M := kt_M501) kX13_par_c19.2.2.2.2.2.2.2.1 rfl h
def zb_X13_par_p225 (E : zE) (L : Nat) (Q : kx_Rs → wS → Prop) (x1 : Int32) (x2 : Int32) (x3 : Int32) (x4 : Int32) (x6 : Int32) (y0 : Int32) (w : wS) : Prop := zL_X13_par_p118 E L Q x1 x2 x3 x4 y0 (x6 + 1) w
theorem zt_X13_par_p225 {E : zE} {L : Nat} {Q : kx_Rs → wS → Prop} {x1 : Int32} {x2 : Int32} {x3 : Int32} {x4 : Int32} {x6 : Int32} {y0 : Int32} {w : wS} (hL : 24 ≤ L) (h : zb_X13_par_p225 E L Q x1 x2 x3 x4 x6 y0 w) : kzE E L kt_M501 225 [(0, .ref (w_adr E.2.1 12 0)), (1, .int x1), (2, .int x2), (3, .int x3), (4, .int x4), (6, .int x6)] [.int y0] w Q := by
  unfold zb_X13_par_p225 at h
  refine kz_sti (M := kt_M501) [(0, .ref (w_adr E.2.1 12 0)), (1, .int x1), (2, .int x2), (3, .int x3), (4, .int x4), (6, .int x6)] kX13_par_c16.2.1 (Nat.le_of_ble_eq_true rfl) ⟨⟨rfl, rfl, .inl rfl⟩, ⟨⟨rfl, rfl, .inl rfl⟩, ⟨⟨rfl, rfl, .inl rfl⟩, ⟨⟨rfl, rfl, .inl rfl⟩, ⟨⟨rfl, rfl, .inr rfl⟩, ⟨⟨rfl, rfl, .inl rfl⟩, trivial⟩⟩⟩⟩⟩⟩ rfl ?_
  refine kz_inc (M := kt_M501) [(0, .ref (w_adr E.2.1 12 0)), (1, .int x1), (2, .int x2), (3, .int x3), (4, .int x4), (5, .int y0)] kX13_par_c16.2.2.1 rfl (Nat.le_of_ble_eq_true rfl) ⟨⟨rfl, rfl, .inl rfl⟩, ⟨⟨rfl, rfl, .inl rfl⟩, ⟨⟨rfl, rfl, .inl rfl⟩, ⟨⟨rfl, rfl, .inl rfl⟩, ⟨⟨rfl, rfl, .inl rfl⟩, ⟨⟨rfl, rfl, .inr rfl⟩, trivial⟩⟩⟩⟩⟩⟩ rfl ?_
  refine kz_goto (M := kt_M501) kX13_par_c16.2.2.2.1 (t := 118) rfl ?_
  exact kz_weak [(0, .ref (w_adr E.2.1 12 0)), (1, .int x1), (2, .int x2), (3, .int x3), (4, .int x4), (5, .int y0), (6, .int (x6 + 1))] ⟨rfl, ⟨rfl, ⟨rfl, ⟨rfl, ⟨rfl, ⟨rfl, ⟨rfl, trivial⟩⟩⟩⟩⟩⟩⟩ rfl h
def zb_X13_par_p183 (E : zE) (L : Nat) (Q : kx_Rs → wS → Prop) (x1 : Int32) (x2 : Int32) (x3 : Int32) (x4 : Int32) (x5 : Int32) (x6 : Int32) (x7 : Int32) (w : wS) : Prop := zw E (L - 24) kt_M491 [.ref (w_adr E.2.1 12 0), .int x3, .int x7, .int x5] w (wk1 (fun v2 w1 => wle w w1 → zw E (L - 21) kt_M460 [.ref (w_adr E.2.1 12 0), .int v2] w1 (wk0 (fun w3 => wle w1 w3 → zw E (L - 21) kt_M513 [.ref (w_adr E.2.1 12 0)] w3 (wk0 (fun w5 => wle w3 w5 → (kx_inb x1 (w_n w5 12 0 28) = true ∧ (if w_a w5 12 0 28 (x1).toNatClampNeg < 0 then (kx_inb x5 (w_n w5 12 0 32) = true ∧ zb_X13_par_p225 E L Q x1 x2 x3 x4 x6 (w_a w5 12 0 32 (x5).toNatClampNeg) w5) else zb_X13_par_p225 E L Q x1 x2 x3 x4 x6 x5 w5))) (fun e w => Q (.inr e) w))) (fun e w => Q (.inr e) w))) (fun e w => Q (.inr e) w))
theorem zt_X13_par_p183 {E : zE} {L : Nat} {Q : kx_Rs → wS → Prop} {x1 : Int32} {x2 : Int32} {x3 : Int32} {x4 : Int32} {x5 : Int32} {x6 : Int32} {x7 : Int32} {w : wS} (hL : 24 ≤ L) (h : zb_X13_par_p183 E L Q x1 x2 x3 x4 x5 x6 x7 w) : kzE E L kt_M501 183 [(0, .ref (w_adr E.2.1 12 0)), (1, .int x1), (2, .int x2), (3, .int x3), (4, .int x4), (5, .int x5), (6, .int x6), (7, .int x7)] [] w Q := by
  unfold zb_X13_par_p183 at h
  refine kz_aload_n (M := kt_M501) kX13_par_c13.2.2.2.1 rfl ?_
  refine kz_iload_n (M := kt_M501) kX13_par_c13.2.2.2.2.1 rfl ?_
  refine kz_iload (M := kt_M501) kX13_par_c13.2.2.2.2.2.1 rfl ?_
  refine kz_iload (M := kt_M501) kX13_par_c13.2.2.2.2.2.2.1 rfl ?_
  refine kz_cv1 (M := kt_M501) (c := 12) (o := 0) (As := [.int x3, .int x7, .int x5]) (rest := []) kX13_par_c13.2.2.2.2.2.2.2.1 wl_X13_1385 wMv_491 rfl (.inl rfl) rfl (Nat.le_trans (Nat.le_of_ble_eq_true rfl) hL) (Nat.le_of_ble_eq_true rfl) (Nat.le_of_ble_eq_true rfl) h (fun v2 w1 hle h => ?_) (fun _ _ _ h => kzx_no rfl h)
  have h := h hle
  refine kz_sti (M := kt_M501) [(0, .ref (w_adr E.2.1 12 0)), (1, .int x1), (2, .int x2), (3, .int x3), (4, .int x4), (5, .int x5), (6, .int x6)] kX13_par_c14.1 (Nat.le_of_ble_eq_true rfl) ⟨⟨rfl, rfl, .inl rfl⟩, ⟨⟨rfl, rfl, .inl rfl⟩, ⟨⟨rfl, rfl, .inl rfl⟩, ⟨⟨rfl, rfl, .inl rfl⟩, ⟨⟨rfl, rfl, .inl rfl⟩, ⟨⟨rfl, rfl, .inl rfl⟩, ⟨⟨rfl, rfl, .inl rfl⟩, trivial⟩⟩⟩⟩⟩⟩⟩ rfl ?_
  refine kz_aload_n (M := kt_M501) kX13_par_c14.2.1 rfl ?_
  refine kz_iload (M := kt_M501) kX13_par_c14.2.2.1 rfl ?_
  refine kz_cv0 (M := kt_M501) (c := 12) (o := 0) (As := [.int v2]) (rest := []) kX13_par_c14.2.2.2.1 wl_X13_1331 wMv_460 rfl (.inl rfl) rfl (Nat.le_trans (Nat.le_of_ble_eq_true rfl) hL) (Nat.le_of_ble_eq_true rfl) (Nat.le_of_ble_eq_true rfl) h (fun w3 hle h => ?_) (fun _ _ _ h => kzx_no rfl h)
  have h := h hle
  refine kz_aload_n (M := kt_M501) kX13_par_c14.2.2.2.2.1 rfl ?_
  refine kz_cv0 (M := kt_M501) (c := 12) (o := 0) (As := []) (rest := []) kX13_par_c14.2.2.2.2.2.1 wl_X13_1334 wMv_513 rfl (.inl rfl) rfl (Nat.le_trans (Nat.le_of_ble_eq_true rfl) hL) (Nat.le_of_ble_eq_true rfl) (Nat.le_of_ble_eq_true rfl) h (fun w5 hle h => ?_) (fun _ _ _ h => kzx_no rfl h)
  have h := h hle
  refine kz_aload_n (M := kt_M501) kX13_par_c14.2.2.2.2.2.2.1 rfl ?_
  refine kz_gfc (M := kt_M501) (x := 4100) (c := 12) (o := 0) kX13_par_c14.2.2.2.2.2.2.2.1 wf_X13_193 (.inl rfl) ?_
  refine kz_iload_n (M := kt_M501) kX13_par_c15.1 rfl ?_
  refine kz_iald (M := kt_M501) (c := 12) (o := 0) (k := 28) (a := (E.2.1 4100)) kX13_par_c15.2.1 ow_12_0_28 oa_12_0_28 ot_0 h (fun h => ?_)
  refine kz_if_lt (M := kt_M501) kX13_par_c15.2.2.1 (t := 218) rfl h (fun h => ?_) (fun h => ?_)
  · skip
    refine kz_aload_n (M := kt_M501) kX13_par_c15.2.2.2.2.2.1 rfl ?_
    refine kz_gfc (M := kt_M501) (x := 4104) (c := 12) (o := 0) kX13_par_c15.2.2.2.2.2.2.1 wf_X13_205 (.inl rfl) ?_
    refine kz_iload (M := kt_M501) kX13_par_c15.2.2.2.2.2.2.2.1 rfl ?_
    refine kz_iald (M := kt_M501) (c := 12) (o := 0) (k := 32) (a := (E.2.1 4104)) kX13_par_c16.1 ow_12_0_32 oa_12_0_32 ot_0 h (fun h => ?_)
    exact kz_weak [(0, .ref (w_adr E.2.1 12 0)), (1, .int x1), (2, .int x2), (3, .int x3), (4, .int x4), (6, .int x6)] ⟨rfl, ⟨rfl, ⟨rfl, ⟨rfl, ⟨rfl, ⟨rfl, trivial⟩⟩⟩⟩⟩⟩ rfl (zt_X13_par_p225 hL  h)
  · skip
    refine kz_iload (M := kt_M501) kX13_par_c15.2.2.2.1 rfl ?_
    refine kz_goto (M := kt_M501) kX13_par_c15.2.2.2.2.1 (t := 225) rfl ?_
    exact kz_weak [(0, .ref (w_adr E.2.1 12 0)), (1, .int x1), (2, .int x2), (3, .int x3), (4, .int x4), (6, .int x6)] ⟨rfl, ⟨rfl, ⟨rfl, ⟨rfl, ⟨rfl, ⟨rfl, trivial⟩⟩⟩⟩⟩⟩ rfl (zt_X13_par_p225 hL  h)
def zb_X13_par_p118 (E : zE) (L : Nat) (Q : kx_Rs → wS → Prop) (x1 : Int32) (x2 : Int32) (x3 : Int32) (x4 : Int32) (x5 : Int32) (x6 : Int32) (w : wS) : Prop := (if x2 ≤ x6 then zw E (L - 21) kt_M460 [.ref (w_adr E.2.1 12 0), .int x3] w (wk0 (fun w1 => wle w w1 → (kx_inb x3 (w_n w1 12 0 147) = true ∧ (kx_inb x3 (w_n w1 12 0 152) = true ∧ (if w_a w1 12 0 152 (x3).toNatClampNeg ≤ 0 then zw E (L - 21) kt_M511 [.ref (w_adr E.2.1 12 0)] (ws_a w1 12 0 147 (x3).toNatClampNeg 0) (wk0 (fun w3 => wle (ws_a w1 12 0 147 (x3).toNatClampNeg 0) w3 → zb_X13_par_p268 E L Q x1 w3) (fun e w => Q (.inr e) w)) else (kx_inb x3 (w_n w1 12 0 147) = true ∧ zb_X13_par_p268 E L Q x1 (ws_a (ws_a w1 12 0 147 (x3).toNatClampNeg 0) 12 0 147 (x3).toNatClampNeg 5)))))) (fun e w => Q (.inr e) w)) else (kx_inb x5 (w_n w 12 0 63) = true ∧ zw E (L - 23) kt_M490 [.ref (w_adr E.2.1 12 0), .int (w_a w 12 0 63 (x5).toNatClampNeg), .int x4] w (wk1 (fun v6 w5 => wle w w5 → (kx_inb x1 (w_n w5 12 0 28) = true ∧ (if w_a w5 12 0 28 (x1).toNatClampNeg < 0 then zb_X13_par_p183 E L Q x1 x2 x3 x4 x5 x6 v6 w5 else (kx_inb x1 (w_n w5 12 0 28) = true ∧ (kx_inb (w_a w5 12 0 28 (x1).toNatClampNeg) (w_n w5 12 0 31) = true ∧ zw E (L - 22) kt_M367 [.ref (w_adr E.2.1 12 0), .int v6, .int (w_a w5 12 0 31 (w_a w5 12 0 28 (x1).toNatClampNeg).toNatClampNeg)] w5 (wk1 (fun v8 w7 => wle w5 w7 → (kx_inb x1 (w_n w7 12 0 28) = true ∧ (kx_inb (w_a w7 12 0 28 (x1).toNatClampNeg) (w_n w7 12 0 77) = true ∧ zw E (L - 22) kt_M547 [.ref (w_adr E.2.1 12 0), .int v8, .int ((w_a w7 12 0 77 (w_a w7 12 0 28 (x1).toNatClampNeg).toNatClampNeg) + x6)] w7 (wk0 (fun w9 => wle w7 w9 → zb_X13_par_p183 E L Q x1 x2 x3 x4 x5 x6 v6 w9) (fun e w => Q (.inr e) w))))) (fun e w => Q (.inr e) w))))))) (fun e w => Q (.inr e) w))))
theorem zt_X13_par_p118 {E : zE} {L : Nat} {Q : kx_Rs → wS → Prop} {x1 : Int32} {x2 : Int32} {x3 : Int32} {x4 : Int32} {x5 : Int32} {x6 : Int32} {w : wS} (hL : 24 ≤ L) (h : zb_X13_par_p118 E L Q x1 x2 x3 x4 x5 x6 w) : kzE E L kt_M501 118 [(0, .ref (w_adr E.2.1 12 0)), (1, .int x1), (2, .int x2), (3, .int x3), (4, .int x4), (5, .int x5), (6, .int x6)] [] w Q := by
  unfold zb_X13_par_p118 at h
  refine kz_iload (M := kt_M501) kX13_par_c8.2.2.2.2.2.2.1 rfl ?_
  refine kz_iload_n (M := kt_M501) kX13_par_c8.2.2.2.2.2.2.2.1 rfl ?_
  refine kz_icmp_ge (M := kt_M501) kX13_par_c9.1 (t := 233) rfl h (fun h => ?_) (fun h => ?_)
  · skip
    refine kz_aload_n (M := kt_M501) kX13_par_c16.2.2.2.2.1 rfl ?_
    refine kz_iload_n (M := kt_M501) kX13_par_c16.2.2.2.2.2.1 rfl ?_
    refine kz_cv0 (M := kt_M501) (c := 12) (o := 0) (As := [.int x3]) (rest := []) kX13_par_c16.2.2.2.2.2.2.1 wl_X13_1331 wMv_460 rfl (.inl rfl) rfl (Nat.le_trans (Nat.le_of_ble_eq_true rfl) hL) (Nat.le_of_ble_eq_true rfl) (Nat.le_of_ble_eq_true rfl) h (fun w1 hle h => ?_) (fun _ _ _ h => kzx_no rfl h)
    have h := h hle
    refine kz_aload_n (M := kt_M501) kX13_par_c16.2.2.2.2.2.2.2.1 rfl ?_
    refine kz_gfc (M := kt_M501) (x := 4219) (c := 12) (o := 0) kX13_par_c17.1 wf_X13_394 (.inl rfl) ?_
    refine kz_iload_n (M := kt_M501) kX13_par_c17.2.1 rfl ?_
    refine kz_ic (M := kt_M501) 0 kX13_par_c17.2.2.1 rfl ?_
    refine kz_iast (M := kt_M501) (c := 12) (o := 0) (k := 147) (a := (E.2.1 4219)) kX13_par_c17.2.2.2.1 ow_12_0_147 oa_12_0_147 ot_0 h (fun h => ?_)
    refine kz_aload_n (M := kt_M501) kX13_par_c17.2.2.2.2.1 rfl ?_
    refine kz_gfc (M := kt_M501) (x := 4224) (c := 12) (o := 0) kX13_par_c17.2.2.2.2.2.1 wf_X13_409 (.inl rfl) ?_
    refine kz_iload_n (M := kt_M501) kX13_par_c17.2.2.2.2.2.2.1 rfl ?_
    refine kz_ialdR (M := kt_M501) (n := w_n w1 12 0 152) (c := 12) (o := 0) (k := 152) (a := (E.2.1 4224)) (w_a w1 12 0 152 (x3).toNatClampNeg) kX13_par_c17.2.2.2.2.2.2.2.1 ow_12_0_152 oa_12_0_152 ot_0 rd_n_a (rd_a_a rfl) h (fun h => ?_)
    refine kz_if_le (M := kt_M501) kX13_par_c18.1 (t := 264) rfl h (fun h => ?_) (fun h => ?_)
    · skip
      refine kz_aload_n (M := kt_M501) kX13_par_c18.2.2.2.2.2.2.2.1 rfl ?_
      refine kz_cv0 (M := kt_M501) (c := 12) (o := 0) (As := []) (rest := []) kX13_par_c19.1 wl_X13_1290 wMv_511 rfl (.inl rfl) rfl (Nat.le_trans (Nat.le_of_ble_eq_true rfl) hL) (Nat.le_of_ble_eq_true rfl) (Nat.le_of_ble_eq_true rfl) h (fun w3 hle h => ?_) (fun _ _ _ h => kzx_no rfl h)
      have h := h hle
      exact kz_weak [(0, .ref (w_adr E.2.1 12 0)), (1, .int x1)] ⟨rfl, ⟨rfl, trivial⟩⟩ rfl (zt_X13_par_p268 hL  h)
    · skip
      refine kz_aload_n (M := kt_M501) kX13_par_c18.2.1 rfl ?_
      refine kz_gfc (M := kt_M501) (x := 4219) (c := 12) (o := 0) kX13_par_c18.2.2.1 wf_X13_394 (.inl rfl) ?_
      refine kz_iload_n (M := kt_M501) kX13_par_c18.2.2.2.1 rfl ?_
      refine kz_ic (M := kt_M501) 5 kX13_par_c18.2.2.2.2.1 rfl ?_
      refine kz_iastR (M := kt_M501) (n := w_n w1 12 0 147) (c := 12) (o := 0) (k := 147) (a := (E.2.1 4219)) kX13_par_c18.2.2.2.2.2.1 ow_12_0_147 oa_12_0_147 ot_0 rd_n_a h (fun h => ?_)
      refine kz_goto (M := kt_M501) kX13_par_c18.2.2.2.2.2.2.1 (t := 268) rfl ?_
      exact kz_weak [(0, .ref (w_adr E.2.1 12 0)), (1, .int x1)] ⟨rfl, ⟨rfl, trivial⟩⟩ rfl (zt_X13_par_p268 hL  h)
  · skip
    refine kz_aload_n (M := kt_M501) kX13_par_c9.2.1 rfl ?_
    refine kz_aload_n (M := kt_M501) kX13_par_c9.2.2.1 rfl ?_
    refine kz_gfc (M := kt_M501) (x := 4135) (c := 12) (o := 0) kX13_par_c9.2.2.2.1 wf_X13_263 (.inl rfl) ?_
    refine kz_iload (M := kt_M501) kX13_par_c9.2.2.2.2.1 rfl ?_
    refine kz_iald (M := kt_M501) (c := 12) (o := 0) (k := 63) (a := (E.2.1 4135)) kX13_par_c9.2.2.2.2.2.1 ow_12_0_63 oa_12_0_63 ot_0 h (fun h => ?_)
    refine kz_iload (M := kt_M501) kX13_par_c9.2.2.2.2.2.2.1 rfl ?_
    refine kz_cv1 (M := kt_M501) (c := 12) (o := 0) (As := [.int (w_a w 12 0 63 (x5).toNatClampNeg), .int x4]) (rest := []) kX13_par_c9.2.2.2.2.2.2.2.1 wl_X13_1263 wMv_490 rfl (.inl rfl) rfl (Nat.le_trans (Nat.le_of_ble_eq_true rfl) hL) (Nat.le_of_ble_eq_true rfl) (Nat.le_of_ble_eq_true rfl) h (fun v6 w5 hle h => ?_) (fun _ _ _ h => kzx_no rfl h)
    have h := h hle
    refine kz_sti (M := kt_M501) [(0, .ref (w_adr E.2.1 12 0)), (1, .int x1), (2, .int x2), (3, .int x3), (4, .int x4), (5, .int x5), (6, .int x6)] kX13_par_c10.1 (Nat.le_of_ble_eq_true rfl) ⟨⟨rfl, rfl, .inl rfl⟩, ⟨⟨rfl, rfl, .inl rfl⟩, ⟨⟨rfl, rfl, .inl rfl⟩, ⟨⟨rfl, rfl, .inl rfl⟩, ⟨⟨rfl, rfl, .inl rfl⟩, ⟨⟨rfl, rfl, .inl rfl⟩, ⟨⟨rfl, rfl, .inr rfl⟩, trivial⟩⟩⟩⟩⟩⟩⟩ rfl ?_
    refine kz_aload_n (M := kt_M501) kX13_par_c10.2.1 rfl ?_
    refine kz_gfc (M := kt_M501) (x := 4100) (c := 12) (o := 0) kX13_par_c10.2.2.1 wf_X13_193 (.inl rfl) ?_
    refine kz_iload_n (M := kt_M501) kX13_par_c10.2.2.2.1 rfl ?_
    refine kz_iald (M := kt_M501) (c := 12) (o := 0) (k := 28) (a := (E.2.1 4100)) kX13_par_c10.2.2.2.2.1 ow_12_0_28 oa_12_0_28 ot_0 h (fun h => ?_)
    refine kz_if_lt (M := kt_M501) kX13_par_c10.2.2.2.2.2.1 (t := 183) rfl h (fun h => ?_) (fun h => ?_)
    · skip
      exact kz_weak [(0, .ref (w_adr E.2.1 12 0)), (1, .int x1), (2, .int x2), (3, .int x3), (4, .int x4), (5, .int x5), (6, .int x6), (7, .int v6)] ⟨rfl, ⟨rfl, ⟨rfl, ⟨rfl, ⟨rfl, ⟨rfl, ⟨rfl, ⟨rfl, trivial⟩⟩⟩⟩⟩⟩⟩⟩ rfl (zt_X13_par_p183 hL  h)
    · skip
      refine kz_aload_n (M := kt_M501) kX13_par_c10.2.2.2.2.2.2.1 rfl ?_
      refine kz_aload_n (M := kt_M501) kX13_par_c10.2.2.2.2.2.2.2.1 rfl ?_
      refine kz_iload (M := kt_M501) kX13_par_c11.1 rfl ?_
      refine kz_aload_n (M := kt_M501) kX13_par_c11.2.1 rfl ?_
      refine kz_gfc (M := kt_M501) (x := 4103) (c := 12) (o := 0) kX13_par_c11.2.2.1 wf_X13_202 (.inl rfl) ?_
      refine kz_aload_n (M := kt_M501) kX13_par_c11.2.2.2.1 rfl ?_
      refine kz_gfc (M := kt_M501) (x := 4100) (c := 12) (o := 0) kX13_par_c11.2.2.2.2.1 wf_X13_193 (.inl rfl) ?_
      refine kz_iload_n (M := kt_M501) kX13_par_c11.2.2.2.2.2.1 rfl ?_
      refine kz_iald (M := kt_M501) (c := 12) (o := 0) (k := 28) (a := (E.2.1 4100)) kX13_par_c11.2.2.2.2.2.2.1 ow_12_0_28 oa_12_0_28 ot_0 h (fun h => ?_)
      refine kz_iald (M := kt_M501) (c := 12) (o := 0) (k := 31) (a := (E.2.1 4103)) kX13_par_c11.2.2.2.2.2.2.2.1 ow_12_0_31 oa_12_0_31 ot_0 h (fun h => ?_)
      refine kz_cv1 (M := kt_M501) (c := 12) (o := 0) (As := [.int v6, .int (w_a w5 12 0 31 (w_a w5 12 0 28 (x1).toNatClampNeg).toNatClampNeg)]) (rest := [.ref (w_adr E.2.1 12 0)]) kX13_par_c12.1 wl_X13_1248 wMv_367 rfl (.inl rfl) rfl (Nat.le_trans (Nat.le_of_ble_eq_true rfl) hL) (Nat.le_of_ble_eq_true rfl) (Nat.le_of_ble_eq_true rfl) h (fun v8 w7 hle h => ?_) (fun _ _ _ h => kzx_no rfl h)
      have h := h hle
      refine kz_aload_n (M := kt_M501) kX13_par_c12.2.1 rfl ?_
      refine kz_gfc (M := kt_M501) (x := 4149) (c := 12) (o := 0) kX13_par_c12.2.2.1 wf_X13_288 (.inl rfl) ?_
      refine kz_aload_n (M := kt_M501) kX13_par_c12.2.2.2.1 rfl ?_
      refine kz_gfc (M := kt_M501) (x := 4100) (c := 12) (o := 0) kX13_par_c12.2.2.2.2.1 wf_X13_193 (.inl rfl) ?_
      refine kz_iload_n (M := kt_M501) kX13_par_c12.2.2.2.2.2.1 rfl ?_
      refine kz_iald (M := kt_M501) (c := 12) (o := 0) (k := 28) (a := (E.2.1 4100)) kX13_par_c12.2.2.2.2.2.2.1 ow_12_0_28 oa_12_0_28 ot_0 h (fun h => ?_)
      refine kz_iald (M := kt_M501) (c := 12) (o := 0) (k := 77) (a := (E.2.1 4149)) kX13_par_c12.2.2.2.2.2.2.2.1 ow_12_0_77 oa_12_0_77 ot_0 h (fun h => ?_)
      refine kz_iload (M := kt_M501) kX13_par_c13.1 rfl ?_
      refine kz_iadd (M := kt_M501) kX13_par_c13.2.1 ?_
      refine kz_cv0 (M := kt_M501) (c := 12) (o := 0) (As := [.int v8, .int ((w_a w7 12 0 77 (w_a w7 12 0 28 (x1).toNatClampNeg).toNatClampNeg) + x6)]) (rest := []) kX13_par_c13.2.2.1 wl_X13_1140 wMv_547 rfl (.inl rfl) rfl (Nat.le_trans (Nat.le_of_ble_eq_true rfl) hL) (Nat.le_of_ble_eq_true rfl) (Nat.le_of_ble_eq_true rfl) h (fun w9 hle h => ?_) (fun _ _ _ h => kzx_no rfl h)
      have h := h hle
      exact kz_weak [(0, .ref (w_adr E.2.1 12 0)), (1, .int x1), (2, .int x2), (3, .int x3), (4, .int x4), (5, .int x5), (6, .int x6), (7, .int v6)] ⟨rfl, ⟨rfl, ⟨rfl, ⟨rfl, ⟨rfl, ⟨rfl, ⟨rfl, ⟨rfl, trivial⟩⟩⟩⟩⟩⟩⟩⟩ rfl (zt_X13_par_p183 hL  h)
def zb_X13_par_p50 (E : zE) (L : Nat) (Q : kx_Rs → wS → Prop) (x1 : Int32) (x2 : Int32) (w : wS) : Prop := (if ((w_i w 12 0 143) + x2) ≤ 80 then (if ¬ x2 = 0 then zw E (L - 20) kt_M529 [.ref (w_adr E.2.1 12 0)] w (wk0 (fun w1 => wle w w1 → (kx_inb (w_i w 12 0 161) (w_n w1 12 0 147) = true ∧ (kx_inb (w_i w 12 0 161) (w_n w1 12 0 152) = true ∧ (kx_inb x1 (w_n w1 12 0 29) = true ∧ zL_X13_par_p118 E L Q x1 x2 (w_i w 12 0 161) (w_i w 12 0 162) (w_a w1 12 0 29 (x1).toNatClampNeg) 0 (ws_a (ws_a w1 12 0 147 (w_i w 12 0 161).toNatClampNeg 7) 12 0 152 (w_i w 12 0 161).toNatClampNeg x2))))) (fun e w => Q (.inr e) w)) else zw E (L - 21) kt_M511 [.ref (w_adr E.2.1 12 0)] w (wk0 (fun w3 => wle w w3 → Q (.inl none) w3) (fun e w => Q (.inr e) w))) else zw E (L - 21) kt_M408 [.ref (w_adr E.2.1 12 0), .int 10] w (wkr (fun v6 w5 => wle w w5 → (v6 = some (w_adr E.2.1 13 0) ∧ Q (.inr "MeetingHouseModel$Halt") w5)) (fun e w => Q (.inr e) w)))
theorem zt_X13_par_p50 {E : zE} {L : Nat} {Q : kx_Rs → wS → Prop} {x1 : Int32} {x2 : Int32} {w : wS} (hL : 24 ≤ L) (h : zb_X13_par_p50 E L Q x1 x2 w) : kzE E L kt_M501 50 [(0, .ref (w_adr E.2.1 12 0)), (1, .int x1), (2, .int x2)] [] w Q := by
  unfold zb_X13_par_p50 at h
  refine kz_aload_n (M := kt_M501) kX13_par_c3.2.2.2.2.2.2.1 rfl ?_
  refine kz_gfi (M := kt_M501) (c := 12) (o := 0) kX13_par_c3.2.2.2.2.2.2.2.1 wf_X13_1186 (.inl rfl) ?_
  refine kz_iload_n (M := kt_M501) kX13_par_c4.1 rfl ?_
  refine kz_iadd (M := kt_M501) kX13_par_c4.2.1 ?_
  refine kz_bi (M := kt_M501) 80 kX13_par_c4.2.2.1 rfl ?_
  refine kz_icmp_le (M := kt_M501) kX13_par_c4.2.2.2.1 (t := 68) rfl h (fun h => ?_) (fun h => ?_)
  · skip
    refine kz_iload_n (M := kt_M501) kX13_par_c5.1 rfl ?_
    refine kz_if_ne (M := kt_M501) kX13_par_c5.2.1 (t := 77) rfl h (fun h => ?_) (fun h => ?_)
    · skip
      refine kz_aload_n (M := kt_M501) kX13_par_c5.2.2.2.2.2.1 rfl ?_
      refine kz_gfi (M := kt_M501) (c := 12) (o := 0) kX13_par_c5.2.2.2.2.2.2.1 wf_X13_1168 (.inl rfl) ?_
      refine kz_sti_n (M := kt_M501) [(0, .ref (w_adr E.2.1 12 0)), (1, .int x1), (2, .int x2)] kX13_par_c5.2.2.2.2.2.2.2.1 (Nat.le_of_ble_eq_true rfl) ⟨⟨rfl, rfl, .inl rfl⟩, ⟨⟨rfl, rfl, .inl rfl⟩, ⟨⟨rfl, rfl, .inr rfl⟩, trivial⟩⟩⟩ rfl ?_
      refine kz_aload_n (M := kt_M501) kX13_par_c6.1 rfl ?_
      refine kz_gfi (M := kt_M501) (c := 12) (o := 0) kX13_par_c6.2.1 wf_X13_1171 (.inl rfl) ?_
      refine kz_sti (M := kt_M501) [(0, .ref (w_adr E.2.1 12 0)), (1, .int x1), (2, .int x2), (3, .int (w_i w 12 0 161))] kX13_par_c6.2.2.1 (Nat.le_of_ble_eq_true rfl) ⟨⟨rfl, rfl, .inl rfl⟩, ⟨⟨rfl, rfl, .inl rfl⟩, ⟨⟨rfl, rfl, .inl rfl⟩, ⟨⟨rfl, rfl, .inr rfl⟩, trivial⟩⟩⟩⟩ rfl ?_
      refine kz_aload_n (M := kt_M501) kX13_par_c6.2.2.2.1 rfl ?_
      refine kz_cv0 (M := kt_M501) (c := 12) (o := 0) (As := []) (rest := []) kX13_par_c6.2.2.2.2.1 wl_X13_1319 wMv_529 rfl (.inl rfl) rfl (Nat.le_trans (Nat.le_of_ble_eq_true rfl) hL) (Nat.le_of_ble_eq_true rfl) (Nat.le_of_ble_eq_true rfl) h (fun w1 hle h => ?_) (fun _ _ _ h => kzx_no rfl h)
      have h := h hle
      refine kz_aload_n (M := kt_M501) kX13_par_c6.2.2.2.2.2.1 rfl ?_
      refine kz_gfc (M := kt_M501) (x := 4219) (c := 12) (o := 0) kX13_par_c6.2.2.2.2.2.2.1 wf_X13_394 (.inl rfl) ?_
      refine kz_iload_n (M := kt_M501) kX13_par_c6.2.2.2.2.2.2.2.1 rfl ?_
      refine kz_bi (M := kt_M501) 7 kX13_par_c7.1 rfl ?_
      refine kz_iast (M := kt_M501) (c := 12) (o := 0) (k := 147) (a := (E.2.1 4219)) kX13_par_c7.2.1 ow_12_0_147 oa_12_0_147 ot_0 h (fun h => ?_)
      refine kz_aload_n (M := kt_M501) kX13_par_c7.2.2.1 rfl ?_
      refine kz_gfc (M := kt_M501) (x := 4224) (c := 12) (o := 0) kX13_par_c7.2.2.2.1 wf_X13_409 (.inl rfl) ?_
      refine kz_iload_n (M := kt_M501) kX13_par_c7.2.2.2.2.1 rfl ?_
      refine kz_iload_n (M := kt_M501) kX13_par_c7.2.2.2.2.2.1 rfl ?_
      refine kz_iastR (M := kt_M501) (n := w_n w1 12 0 152) (c := 12) (o := 0) (k := 152) (a := (E.2.1 4224)) kX13_par_c7.2.2.2.2.2.2.1 ow_12_0_152 oa_12_0_152 ot_0 rd_n_a h (fun h => ?_)
      refine kz_aload_n (M := kt_M501) kX13_par_c7.2.2.2.2.2.2.2.1 rfl ?_
      refine kz_gfc (M := kt_M501) (x := 4101) (c := 12) (o := 0) kX13_par_c8.1 wf_X13_196 (.inl rfl) ?_
      refine kz_iload_n (M := kt_M501) kX13_par_c8.2.1 rfl ?_
      refine kz_ialdR (M := kt_M501) (n := w_n w1 12 0 29) (c := 12) (o := 0) (k := 29) (a := (E.2.1 4101)) (w_a w1 12 0 29 (x1).toNatClampNeg) kX13_par_c8.2.2.1 ow_12_0_29 oa_12_0_29 ot_0 (rd_n_a.trans rd_n_a) ((rd_a_a rfl).trans (rd_a_a rfl)) h (fun h => ?_)
      refine kz_sti (M := kt_M501) [(0, .ref (w_adr E.2.1 12 0)), (1, .int x1), (2, .int x2), (3, .int (w_i w 12 0 161)), (4, .int (w_i w 12 0 162))] kX13_par_c8.2.2.2.1 (Nat.le_of_ble_eq_true rfl) ⟨⟨rfl, rfl, .inl rfl⟩, ⟨⟨rfl, rfl, .inl rfl⟩, ⟨⟨rfl, rfl, .inl rfl⟩, ⟨⟨rfl, rfl, .inl rfl⟩, ⟨⟨rfl, rfl, .inr rfl⟩, trivial⟩⟩⟩⟩⟩ rfl ?_
      refine kz_ic (M := kt_M501) 0 kX13_par_c8.2.2.2.2.1 rfl ?_
      refine kz_sti (M := kt_M501) [(0, .ref (w_adr E.2.1 12 0)), (1, .int x1), (2, .int x2), (3, .int (w_i w 12 0 161)), (4, .int (w_i w 12 0 162)), (5, .int (w_a w1 12 0 29 (x1).toNatClampNeg))] kX13_par_c8.2.2.2.2.2.1 (Nat.le_of_ble_eq_true rfl) ⟨⟨rfl, rfl, .inl rfl⟩, ⟨⟨rfl, rfl, .inl rfl⟩, ⟨⟨rfl, rfl, .inl rfl⟩, ⟨⟨rfl, rfl, .inl rfl⟩, ⟨⟨rfl, rfl, .inl rfl⟩, ⟨⟨rfl, rfl, .inr rfl⟩, trivial⟩⟩⟩⟩⟩⟩ rfl ?_
      exact kz_weak [(0, .ref (w_adr E.2.1 12 0)), (1, .int x1), (2, .int x2), (3, .int (w_i w 12 0 161)), (4, .int (w_i w 12 0 162)), (5, .int (w_a w1 12 0 29 (x1).toNatClampNeg)), (6, .int 0)] ⟨rfl, ⟨rfl, ⟨rfl, ⟨rfl, ⟨rfl, ⟨rfl, ⟨rfl, trivial⟩⟩⟩⟩⟩⟩⟩ rfl h
    · skip
      refine kz_aload_n (M := kt_M501) kX13_par_c5.2.2.1 rfl ?_
      refine kz_cv0 (M := kt_M501) (c := 12) (o := 0) (As := []) (rest := []) kX13_par_c5.2.2.2.1 wl_X13_1290 wMv_511 rfl (.inl rfl) rfl (Nat.le_trans (Nat.le_of_ble_eq_true rfl) hL) (Nat.le_of_ble_eq_true rfl) (Nat.le_of_ble_eq_true rfl) h (fun w3 hle h => ?_) (fun _ _ _ h => kzx_no rfl h)
      have h := h hle
      exact kz_ret (M := kt_M501) kX13_par_c5.2.2.2.2.1 rfl h
  · skip
    refine kz_aload_n (M := kt_M501) kX13_par_c4.2.2.2.2.1 rfl ?_
    refine kz_bi (M := kt_M501) 10 kX13_par_c4.2.2.2.2.2.1 rfl ?_
    refine kz_cvr (M := kt_M501) (c := 12) (o := 0) (As := [.int 10]) (rest := []) kX13_par_c4.2.2.2.2.2.2.1 wl_X13_839 wMv_408 rfl (.inl rfl) rfl (Nat.le_trans (Nat.le_of_ble_eq_true rfl) hL) (Nat.le_of_ble_eq_true rfl) (Nat.le_of_ble_eq_true rfl) h (fun v6 w5 hle h => ?_) (fun _ _ _ h => kzx_no rfl h)
    have h := h hle
    exact kz_throw (M := kt_M501) (c := 13) (o := 0) kX13_par_c4.2.2.2.2.2.2.2.1 rfl (.inl rfl) h (fun h => kzx_no rfl h)
def zb_X13_par_p33 (E : zE) (L : Nat) (Q : kx_Rs → wS → Prop) (x1 : Int32) (x2 : Int32) (x3 : Int32) (w : wS) : Prop := (if x3 < 0 then zb_X13_par_p50 E L Q x1 x2 w else (kx_inb x3 (w_n w 12 0 32) = true ∧ zL_X13_par_p33 E L Q x1 (x2 + 1) (w_a w 12 0 32 (x3).toNatClampNeg) w))
theorem zt_X13_par_p33 {E : zE} {L : Nat} {Q : kx_Rs → wS → Prop} {x1 : Int32} {x2 : Int32} {x3 : Int32} {w : wS} (hL : 24 ≤ L) (h : zb_X13_par_p33 E L Q x1 x2 x3 w) : kzE E L kt_M501 33 [(0, .ref (w_adr E.2.1 12 0)), (1, .int x1), (2, .int x2), (3, .int x3)] [] w Q := by
  unfold zb_X13_par_p33 at h
  refine kz_iload_n (M := kt_M501) kX13_par_c2.2.2.2.2.2.1 rfl ?_
  refine kz_if_lt (M := kt_M501) kX13_par_c2.2.2.2.2.2.2.1 (t := 50) rfl h (fun h => ?_) (fun h => ?_)
  · skip
    exact kz_weak [(0, .ref (w_adr E.2.1 12 0)), (1, .int x1), (2, .int x2)] ⟨rfl, ⟨rfl, ⟨rfl, trivial⟩⟩⟩ rfl (zt_X13_par_p50 hL  h)
  · skip
    refine kz_inc (M := kt_M501) [(0, .ref (w_adr E.2.1 12 0)), (1, .int x1), (3, .int x3)] kX13_par_c2.2.2.2.2.2.2.2.1 rfl (Nat.le_of_ble_eq_true rfl) ⟨⟨rfl, rfl, .inl rfl⟩, ⟨⟨rfl, rfl, .inr rfl⟩, ⟨⟨rfl, rfl, .inl rfl⟩, trivial⟩⟩⟩ rfl ?_
    refine kz_aload_n (M := kt_M501) kX13_par_c3.1 rfl ?_
    refine kz_gfc (M := kt_M501) (x := 4104) (c := 12) (o := 0) kX13_par_c3.2.1 wf_X13_205 (.inl rfl) ?_
    refine kz_iload_n (M := kt_M501) kX13_par_c3.2.2.1 rfl ?_
    refine kz_iald (M := kt_M501) (c := 12) (o := 0) (k := 32) (a := (E.2.1 4104)) kX13_par_c3.2.2.2.1 ow_12_0_32 oa_12_0_32 ot_0 h (fun h => ?_)
    refine kz_sti_n (M := kt_M501) [(0, .ref (w_adr E.2.1 12 0)), (1, .int x1), (2, .int (x2 + 1))] kX13_par_c3.2.2.2.2.1 (Nat.le_of_ble_eq_true rfl) ⟨⟨rfl, rfl, .inl rfl⟩, ⟨⟨rfl, rfl, .inl rfl⟩, ⟨⟨rfl, rfl, .inr rfl⟩, trivial⟩⟩⟩ rfl ?_
    refine kz_goto (M := kt_M501) kX13_par_c3.2.2.2.2.2.1 (t := 33) rfl ?_
    exact kz_weak [(0, .ref (w_adr E.2.1 12 0)), (1, .int x1), (2, .int (x2 + 1)), (3, .int (w_a w 12 0 32 (x3).toNatClampNeg))] ⟨rfl, ⟨rfl, ⟨rfl, ⟨rfl, trivial⟩⟩⟩⟩ rfl h
def zb_X13_par_p0 (E : zE) (L : Nat) (Q : kx_Rs → wS → Prop) (x1 : Int32) (w : wS) : Prop := (kx_inb x1 (w_n w 12 0 28) = true ∧ (if w_a w 12 0 28 (x1).toNatClampNeg < 0 then (kx_inb x1 (w_n w 12 0 29) = true ∧ zL_X13_par_p33 E L Q x1 0 (w_a w 12 0 29 (x1).toNatClampNeg) w) else (kx_inb x1 (w_n w 12 0 28) = true ∧ (kx_inb (w_a w 12 0 28 (x1).toNatClampNeg) (w_n w 12 0 78) = true ∧ zb_X13_par_p50 E L Q x1 (w_a w 12 0 78 (w_a w 12 0 28 (x1).toNatClampNeg).toNatClampNeg) w))))
theorem zt_X13_par_p0 {E : zE} {L : Nat} {Q : kx_Rs → wS → Prop} {x1 : Int32} {w : wS} (hL : 24 ≤ L) (h : zb_X13_par_p0 E L Q x1 w) : kzE E L kt_M501 0 [(0, .ref (w_adr E.2.1 12 0)), (1, .int x1)] [] w Q := by
  unfold zb_X13_par_p0 at h
  refine kz_ic (M := kt_M501) 0 kX13_par_c0.1 rfl ?_
  refine kz_sti_n (M := kt_M501) [(0, .ref (w_adr E.2.1 12 0)), (1, .int x1)] kX13_par_c0.2.1 (Nat.le_of_ble_eq_true rfl) ⟨⟨rfl, rfl, .inl rfl⟩, ⟨⟨rfl, rfl, .inr rfl⟩, trivial⟩⟩ rfl ?_
  refine kz_aload_n (M := kt_M501) kX13_par_c0.2.2.1 rfl ?_
  refine kz_gfc (M := kt_M501) (x := 4100) (c := 12) (o := 0) kX13_par_c0.2.2.2.1 wf_X13_193 (.inl rfl) ?_
  refine kz_iload_n (M := kt_M501) kX13_par_c0.2.2.2.2.1 rfl ?_
  refine kz_iald (M := kt_M501) (c := 12) (o := 0) (k := 28) (a := (E.2.1 4100)) kX13_par_c0.2.2.2.2.2.1 ow_12_0_28 oa_12_0_28 ot_0 h (fun h => ?_)
  refine kz_if_lt (M := kt_M501) kX13_par_c0.2.2.2.2.2.2.1 (t := 26) rfl h (fun h => ?_) (fun h => ?_)
  · skip
    refine kz_aload_n (M := kt_M501) kX13_par_c2.1 rfl ?_
    refine kz_gfc (M := kt_M501) (x := 4101) (c := 12) (o := 0) kX13_par_c2.2.1 wf_X13_196 (.inl rfl) ?_
    refine kz_iload_n (M := kt_M501) kX13_par_c2.2.2.1 rfl ?_
    refine kz_iald (M := kt_M501) (c := 12) (o := 0) (k := 29) (a := (E.2.1 4101)) kX13_par_c2.2.2.2.1 ow_12_0_29 oa_12_0_29 ot_0 h (fun h => ?_)
    refine kz_sti_n (M := kt_M501) [(0, .ref (w_adr E.2.1 12 0)), (1, .int x1), (2, .int 0)] kX13_par_c2.2.2.2.2.1 (Nat.le_of_ble_eq_true rfl) ⟨⟨rfl, rfl, .inl rfl⟩, ⟨⟨rfl, rfl, .inl rfl⟩, ⟨⟨rfl, rfl, .inr rfl⟩, trivial⟩⟩⟩ rfl ?_
    exact kz_weak [(0, .ref (w_adr E.2.1 12 0)), (1, .int x1), (2, .int 0), (3, .int (w_a w 12 0 29 (x1).toNatClampNeg))] ⟨rfl, ⟨rfl, ⟨rfl, ⟨rfl, trivial⟩⟩⟩⟩ rfl h
  · skip
    refine kz_aload_n (M := kt_M501) kX13_par_c0.2.2.2.2.2.2.2.1 rfl ?_
    refine kz_gfc (M := kt_M501) (x := 4150) (c := 12) (o := 0) kX13_par_c1.1 wf_X13_291 (.inl rfl) ?_
    refine kz_aload_n (M := kt_M501) kX13_par_c1.2.1 rfl ?_
    refine kz_gfc (M := kt_M501) (x := 4100) (c := 12) (o := 0) kX13_par_c1.2.2.1 wf_X13_193 (.inl rfl) ?_
    refine kz_iload_n (M := kt_M501) kX13_par_c1.2.2.2.1 rfl ?_
    refine kz_iald (M := kt_M501) (c := 12) (o := 0) (k := 28) (a := (E.2.1 4100)) kX13_par_c1.2.2.2.2.1 ow_12_0_28 oa_12_0_28 ot_0 h (fun h => ?_)
    refine kz_iald (M := kt_M501) (c := 12) (o := 0) (k := 78) (a := (E.2.1 4150)) kX13_par_c1.2.2.2.2.2.1 ow_12_0_78 oa_12_0_78 ot_0 h (fun h => ?_)
    refine kz_sti_n (M := kt_M501) [(0, .ref (w_adr E.2.1 12 0)), (1, .int x1)] kX13_par_c1.2.2.2.2.2.2.1 (Nat.le_of_ble_eq_true rfl) ⟨⟨rfl, rfl, .inl rfl⟩, ⟨⟨rfl, rfl, .inr rfl⟩, trivial⟩⟩ rfl ?_
    refine kz_goto (M := kt_M501) kX13_par_c1.2.2.2.2.2.2.2.1 (t := 50) rfl ?_
    exact kz_weak [(0, .ref (w_adr E.2.1 12 0)), (1, .int x1), (2, .int (w_a w 12 0 78 (w_a w 12 0 28 (x1).toNatClampNeg).toNatClampNeg))] ⟨rfl, ⟨rfl, ⟨rfl, trivial⟩⟩⟩ rfl (zt_X13_par_p50 hL  h)
def zb_X13_save_p0 (E : zE) (L : Nat) (Q : kx_Rs → wS → Prop) (w : wS) : Prop := (kx_inb (w_i w 12 0 161) (w_n w 12 0 149) = true ∧ (kx_inb (w_i w 12 0 161) (w_n w 12 0 151) = true ∧ Q (.inl none) (ws_a (ws_a w 12 0 149 (w_i w 12 0 161).toNatClampNeg (w_i w 12 0 162)) 12 0 151 (w_i w 12 0 161).toNatClampNeg (w_i w 12 0 163))))
theorem zt_X13_save_p0 {E : zE} {L : Nat} {Q : kx_Rs → wS → Prop} {w : wS} (hL : 19 ≤ L) (h : zb_X13_save_p0 E L Q  w) : kzE E L kt_M529 0 [(0, .ref (w_adr E.2.1 12 0))] [] w Q := by
  unfold zb_X13_save_p0 at h
  refine kz_aload_n (M := kt_M529) kX13_save_c0.1 rfl ?_
  refine kz_gfc (M := kt_M529) (x := 4221) (c := 12) (o := 0) kX13_save_c0.2.1 wf_X13_400 (.inl rfl) ?_
  refine kz_aload_n (M := kt_M529) kX13_save_c0.2.2.1 rfl ?_
  refine kz_gfi (M := kt_M529) (c := 12) (o := 0) kX13_save_c0.2.2.2.1 wf_X13_1168 (.inl rfl) ?_
  refine kz_aload_n (M := kt_M529) kX13_save_c0.2.2.2.2.1 rfl ?_
  refine kz_gfi (M := kt_M529) (c := 12) (o := 0) kX13_save_c0.2.2.2.2.2.1 wf_X13_1171 (.inl rfl) ?_
  refine kz_iast (M := kt_M529) (c := 12) (o := 0) (k := 149) (a := (E.2.1 4221)) kX13_save_c0.2.2.2.2.2.2.1 ow_12_0_149 oa_12_0_149 ot_0 h (fun h => ?_)
  refine kz_aload_n (M := kt_M529) kX13_save_c0.2.2.2.2.2.2.2.1 rfl ?_
  refine kz_gfc (M := kt_M529) (x := 4223) (c := 12) (o := 0) kX13_save_c1.1 wf_X13_406 (.inl rfl) ?_
  refine kz_aload_n (M := kt_M529) kX13_save_c1.2.1 rfl ?_
  refine kz_gfiR (M := kt_M529) (c := 12) (o := 0) (w_i w 12 0 161) kX13_save_c1.2.2.1 wf_X13_1168 (.inl rfl) rd_i_a ?_
  refine kz_aload_n (M := kt_M529) kX13_save_c1.2.2.2.1 rfl ?_
  refine kz_gfiR (M := kt_M529) (c := 12) (o := 0) (w_i w 12 0 163) kX13_save_c1.2.2.2.2.1 wf_X13_1165 (.inl rfl) rd_i_a ?_
  refine kz_iastR (M := kt_M529) (n := w_n w 12 0 151) (c := 12) (o := 0) (k := 151) (a := (E.2.1 4223)) kX13_save_c1.2.2.2.2.2.1 ow_12_0_151 oa_12_0_151 ot_0 rd_n_a h (fun h => ?_)
  exact kz_ret (M := kt_M529) kX13_save_c1.2.2.2.2.2.2.1 rfl h
def zb_X13_after_p0 (E : zE) (L : Nat) (Q : kx_Rs → wS → Prop) (x1 : Int32) (w : wS) : Prop := (kx_inb (w_i w 12 0 161) (w_n w 12 0 159) = true ∧ (if w_a w 12 0 159 (w_i w 12 0 161).toNatClampNeg = 0 then (kx_inb x1 (w_n w 12 0 29) = true ∧ zw E (L - 25) kt_M404 [.ref (w_adr E.2.1 12 0), .int (w_a w 12 0 29 (x1).toNatClampNeg)] w (wk1 (fun v2 w1 => wle w w1 → (if ((w_i w1 12 0 128) - v2) ≤ 0 then (kx_inb (w_i w1 12 0 161) (w_n w1 12 0 147) = true ∧ (kx_inb (w_i w1 12 0 161) (w_n w1 12 0 156) = true ∧ Q (.inl none) (ws_a (ws_a w1 12 0 147 (w_i w1 12 0 161).toNatClampNeg 4) 12 0 156 (w_i w1 12 0 161).toNatClampNeg v2))) else zw E (L - 21) kt_M511 [.ref (w_adr E.2.1 12 0)] w1 (wk0 (fun w3 => wle w1 w3 → Q (.inl none) w3) (fun e w => Q (.inr e) w)))) (fun e w => Q (.inr e) w))) else (kx_inb (w_i w 12 0 161) (w_n w 12 0 159) = true ∧ zw E (L - 21) kt_M511 [.ref (w_adr E.2.1 12 0)] (ws_a w 12 0 159 (w_i w 12 0 161).toNatClampNeg (vp_nar .boolean 0)) (wk0 (fun w5 => wle (ws_a w 12 0 159 (w_i w 12 0 161).toNatClampNeg (vp_nar .boolean 0)) w5 → Q (.inl none) w5) (fun e w => Q (.inr e) w)))))
theorem zt_X13_after_p0 {E : zE} {L : Nat} {Q : kx_Rs → wS → Prop} {x1 : Int32} {w : wS} (hL : 25 ≤ L) (h : zb_X13_after_p0 E L Q x1 w) : kzE E L kt_M348 0 [(0, .ref (w_adr E.2.1 12 0)), (1, .int x1)] [] w Q := by
  unfold zb_X13_after_p0 at h
  refine kz_aload_n (M := kt_M348) kX13_after_c0.1 rfl ?_
  refine kz_gfc (M := kt_M348) (x := 4231) (c := 12) (o := 0) kX13_after_c0.2.1 wf_X13_430 (.inl rfl) ?_
  refine kz_aload_n (M := kt_M348) kX13_after_c0.2.2.1 rfl ?_
  refine kz_gfi (M := kt_M348) (c := 12) (o := 0) kX13_after_c0.2.2.2.1 wf_X13_1168 (.inl rfl) ?_
  refine kz_zald (M := kt_M348) (c := 12) (o := 0) (k := 159) (a := (E.2.1 4231)) kX13_after_c0.2.2.2.2.1 ow_12_0_159 oa_12_0_159 ot_2 h (fun h => ?_)
  refine kz_if_eq (M := kt_M348) kX13_after_c0.2.2.2.2.2.1 (t := 27) rfl h (fun h => ?_) (fun h => ?_)
  · skip
    refine kz_aload_n (M := kt_M348) kX13_after_c1.2.2.2.2.2.2.2.1 rfl ?_
    refine kz_aload_n (M := kt_M348) kX13_after_c2.1 rfl ?_
    refine kz_gfc (M := kt_M348) (x := 4101) (c := 12) (o := 0) kX13_after_c2.2.1 wf_X13_196 (.inl rfl) ?_
    refine kz_iload_n (M := kt_M348) kX13_after_c2.2.2.1 rfl ?_
    refine kz_iald (M := kt_M348) (c := 12) (o := 0) (k := 29) (a := (E.2.1 4101)) kX13_after_c2.2.2.2.1 ow_12_0_29 oa_12_0_29 ot_0 h (fun h => ?_)
    refine kz_cv1 (M := kt_M348) (c := 12) (o := 0) (As := [.int (w_a w 12 0 29 (x1).toNatClampNeg)]) (rest := []) kX13_after_c2.2.2.2.2.1 wl_X13_1207 wMv_404 rfl (.inl rfl) rfl (Nat.le_trans (Nat.le_of_ble_eq_true rfl) hL) (Nat.le_of_ble_eq_true rfl) (Nat.le_of_ble_eq_true rfl) h (fun v2 w1 hle h => ?_) (fun _ _ _ h => kzx_no rfl h)
    have h := h hle
    refine kz_sti_n (M := kt_M348) [(0, .ref (w_adr E.2.1 12 0))] kX13_after_c2.2.2.2.2.2.1 (Nat.le_of_ble_eq_true rfl) ⟨⟨rfl, rfl, .inl rfl⟩, trivial⟩ rfl ?_
    refine kz_aload_n (M := kt_M348) kX13_after_c2.2.2.2.2.2.2.1 rfl ?_
    refine kz_gfi (M := kt_M348) (c := 12) (o := 0) kX13_after_c2.2.2.2.2.2.2.2.1 wf_X13_1388 (.inl rfl) ?_
    refine kz_iload_n (M := kt_M348) kX13_after_c3.1 rfl ?_
    refine kz_isub (M := kt_M348) kX13_after_c3.2.1 ?_
    refine kz_if_le (M := kt_M348) kX13_after_c3.2.2.1 (t := 52) rfl h (fun h => ?_) (fun h => ?_)
    · skip
      refine kz_aload_n (M := kt_M348) kX13_after_c3.2.2.2.2.2.2.1 rfl ?_
      refine kz_gfc (M := kt_M348) (x := 4219) (c := 12) (o := 0) kX13_after_c3.2.2.2.2.2.2.2.1 wf_X13_394 (.inl rfl) ?_
      refine kz_aload_n (M := kt_M348) kX13_after_c4.1 rfl ?_
      refine kz_gfi (M := kt_M348) (c := 12) (o := 0) kX13_after_c4.2.1 wf_X13_1168 (.inl rfl) ?_
      refine kz_ic (M := kt_M348) 4 kX13_after_c4.2.2.1 rfl ?_
      refine kz_iast (M := kt_M348) (c := 12) (o := 0) (k := 147) (a := (E.2.1 4219)) kX13_after_c4.2.2.2.1 ow_12_0_147 oa_12_0_147 ot_0 h (fun h => ?_)
      refine kz_aload_n (M := kt_M348) kX13_after_c4.2.2.2.2.1 rfl ?_
      refine kz_gfc (M := kt_M348) (x := 4228) (c := 12) (o := 0) kX13_after_c4.2.2.2.2.2.1 wf_X13_421 (.inl rfl) ?_
      refine kz_aload_n (M := kt_M348) kX13_after_c4.2.2.2.2.2.2.1 rfl ?_
      refine kz_gfiR (M := kt_M348) (c := 12) (o := 0) (w_i w1 12 0 161) kX13_after_c4.2.2.2.2.2.2.2.1 wf_X13_1168 (.inl rfl) rd_i_a ?_
      refine kz_iload_n (M := kt_M348) kX13_after_c5.1 rfl ?_
      refine kz_iastR (M := kt_M348) (n := w_n w1 12 0 156) (c := 12) (o := 0) (k := 156) (a := (E.2.1 4228)) kX13_after_c5.2.1 ow_12_0_156 oa_12_0_156 ot_0 rd_n_a h (fun h => ?_)
      exact kz_ret (M := kt_M348) kX13_after_c5.2.2.1 rfl h
    · skip
      refine kz_aload_n (M := kt_M348) kX13_after_c3.2.2.2.1 rfl ?_
      refine kz_cv0 (M := kt_M348) (c := 12) (o := 0) (As := []) (rest := []) kX13_after_c3.2.2.2.2.1 wl_X13_1290 wMv_511 rfl (.inl rfl) rfl (Nat.le_trans (Nat.le_of_ble_eq_true rfl) hL) (Nat.le_of_ble_eq_true rfl) (Nat.le_of_ble_eq_true rfl) h (fun w3 hle h => ?_) (fun _ _ _ h => kzx_no rfl h)
      have h := h hle
      exact kz_ret (M := kt_M348) kX13_after_c3.2.2.2.2.2.1 rfl h
  · skip
    refine kz_aload_n (M := kt_M348) kX13_after_c0.2.2.2.2.2.2.1 rfl ?_
    refine kz_gfc (M := kt_M348) (x := 4231) (c := 12) (o := 0) kX13_after_c0.2.2.2.2.2.2.2.1 wf_X13_430 (.inl rfl) ?_
    refine kz_aload_n (M := kt_M348) kX13_after_c1.1 rfl ?_
    refine kz_gfi (M := kt_M348) (c := 12) (o := 0) kX13_after_c1.2.1 wf_X13_1168 (.inl rfl) ?_
    refine kz_ic (M := kt_M348) 0 kX13_after_c1.2.2.1 rfl ?_
    refine kz_zast (M := kt_M348) (c := 12) (o := 0) (k := 159) (a := (E.2.1 4231)) kX13_after_c1.2.2.2.1 ow_12_0_159 oa_12_0_159 ot_2 h (fun h => ?_)
    refine kz_aload_n (M := kt_M348) kX13_after_c1.2.2.2.2.1 rfl ?_
    refine kz_cv0 (M := kt_M348) (c := 12) (o := 0) (As := []) (rest := []) kX13_after_c1.2.2.2.2.2.1 wl_X13_1290 wMv_511 rfl (.inl rfl) rfl (Nat.le_trans (Nat.le_of_ble_eq_true rfl) hL) (Nat.le_of_ble_eq_true rfl) (Nat.le_of_ble_eq_true rfl) h (fun w5 hle h => ?_) (fun _ _ _ h => kzx_no rfl h)
    have h := h hle
    exact kz_ret (M := kt_M348) kX13_after_c1.2.2.2.2.2.2.1 rfl h
def zL_X13_tell_p225 (E : zE) (L : Nat) (Q : kx_Rs → wS → Prop) (x3 : Int32) (x5 : Int32) (x6 : Int32) (x7 : Int32) (x8 : Int32) (x9 : Int32) (x10 : Int32) (x11 : Int32) (w : wS) : Prop := kzE E L kt_M558 225 [(0, .ref (w_adr E.2.1 12 0)), (3, .int x3), (5, .int x5), (6, .int x6), (7, .int x7), (8, .int x8), (9, .int x9), (10, .int x10), (11, .int x11)] [] w Q
def zL_X13_tell_p156 (E : zE) (L : Nat) (Q : kx_Rs → wS → Prop) (x3 : Int32) (x5 : Int32) (x6 : Int32) (x7 : Int32) (x8 : Int32) (x9 : Int32) (w : wS) : Prop := kzE E L kt_M558 156 [(0, .ref (w_adr E.2.1 12 0)), (3, .int x3), (5, .int x5), (6, .int x6), (7, .int x7), (8, .int x8), (9, .int x9)] [] w Q
def zL_X13_tell_p79 (E : zE) (L : Nat) (Q : kx_Rs → wS → Prop) (x3 : Int32) (x4 : Int32) (x5 : Int32) (x6 : Int32) (x7 : Int32) (x8 : Int32) (w : wS) : Prop := kzE E L kt_M558 79 [(0, .ref (w_adr E.2.1 12 0)), (3, .int x3), (4, .int x4), (5, .int x5), (6, .int x6), (7, .int x7), (8, .int x8)] [] w Q
def zb_X13_tell_p335 (E : zE) (L : Nat) (Q : kx_Rs → wS → Prop) (x7 : Int32) (x8 : Int32) (w : wS) : Prop := zw E (L - 26) kt_M456 [.ref (w_adr E.2.1 12 0), .int x8, .int x7] w (wk0 (fun w1 => wle w w1 → zw E (L - 21) kt_M511 [.ref (w_adr E.2.1 12 0)] w1 (wk0 (fun w3 => wle w1 w3 → Q (.inl none) w3) (fun e w => Q (.inr e) w))) (fun e w => Q (.inr e) w))
theorem zt_X13_tell_p335 {E : zE} {L : Nat} {Q : kx_Rs → wS → Prop} {x7 : Int32} {x8 : Int32} {w : wS} (hL : 26 ≤ L) (h : zb_X13_tell_p335 E L Q x7 x8 w) : kzE E L kt_M558 335 [(0, .ref (w_adr E.2.1 12 0)), (7, .int x7), (8, .int x8)] [] w Q := by
  unfold zb_X13_tell_p335 at h
  refine kz_aload_n (M := kt_M558) kX13_tell_c22.2.1 rfl ?_
  refine kz_iload (M := kt_M558) kX13_tell_c22.2.2.1 rfl ?_
  refine kz_iload (M := kt_M558) kX13_tell_c22.2.2.2.1 rfl ?_
  refine kz_cv0 (M := kt_M558) (c := 12) (o := 0) (As := [.int x8, .int x7]) (rest := []) kX13_tell_c22.2.2.2.2.1 wl_X13_1180 wMv_456 rfl (.inl rfl) rfl (Nat.le_trans (Nat.le_of_ble_eq_true rfl) hL) (Nat.le_of_ble_eq_true rfl) (Nat.le_of_ble_eq_true rfl) h (fun w1 hle h => ?_) (fun _ _ _ h => kzx_no rfl h)
  have h := h hle
  refine kz_aload_n (M := kt_M558) kX13_tell_c22.2.2.2.2.2.1 rfl ?_
  refine kz_cv0 (M := kt_M558) (c := 12) (o := 0) (As := []) (rest := []) kX13_tell_c22.2.2.2.2.2.2.1 wl_X13_1290 wMv_511 rfl (.inl rfl) rfl (Nat.le_trans (Nat.le_of_ble_eq_true rfl) hL) (Nat.le_of_ble_eq_true rfl) (Nat.le_of_ble_eq_true rfl) h (fun w3 hle h => ?_) (fun _ _ _ h => kzx_no rfl h)
  have h := h hle
  exact kz_ret (M := kt_M558) kX13_tell_c22.2.2.2.2.2.2.2.1 rfl h
def zb_X13_tell_p262 (E : zE) (L : Nat) (Q : kx_Rs → wS → Prop) (x3 : Int32) (x5 : Int32) (x6 : Int32) (x7 : Int32) (x8 : Int32) (x9 : Int32) (x10 : Int32) (w : wS) : Prop := zw E (L - 21) kt_M413 [.int x6, .ref (E.2.1 4104)] w (wk1 (fun v2 w1 => wle w w1 → (kx_inb x5 (w_n w1 12 0 32) = true ∧ zL_X13_tell_p156 E L Q x3 (w_a w1 12 0 32 (x5).toNatClampNeg) v2 x7 x8 (x9 + x10) w1)) (fun e w => Q (.inr e) w))
theorem zt_X13_tell_p262 {E : zE} {L : Nat} {Q : kx_Rs → wS → Prop} {x3 : Int32} {x5 : Int32} {x6 : Int32} {x7 : Int32} {x8 : Int32} {x9 : Int32} {x10 : Int32} {w : wS} (hL : 26 ≤ L) (h : zb_X13_tell_p262 E L Q x3 x5 x6 x7 x8 x9 x10 w) : kzE E L kt_M558 262 [(0, .ref (w_adr E.2.1 12 0)), (3, .int x3), (5, .int x5), (6, .int x6), (7, .int x7), (8, .int x8), (9, .int x9), (10, .int x10)] [] w Q := by
  unfold zb_X13_tell_p262 at h
  refine kz_iload (M := kt_M558) kX13_tell_c17.2.2.2.2.1 rfl ?_
  refine kz_iload (M := kt_M558) kX13_tell_c17.2.2.2.2.2.1 rfl ?_
  refine kz_iadd (M := kt_M558) kX13_tell_c17.2.2.2.2.2.2.1 ?_
  refine kz_sti (M := kt_M558) [(0, .ref (w_adr E.2.1 12 0)), (3, .int x3), (5, .int x5), (6, .int x6), (7, .int x7), (8, .int x8)] kX13_tell_c17.2.2.2.2.2.2.2.1 (Nat.le_of_ble_eq_true rfl) ⟨⟨rfl, rfl, .inl rfl⟩, ⟨⟨rfl, rfl, .inl rfl⟩, ⟨⟨rfl, rfl, .inl rfl⟩, ⟨⟨rfl, rfl, .inl rfl⟩, ⟨⟨rfl, rfl, .inl rfl⟩, ⟨⟨rfl, rfl, .inr rfl⟩, trivial⟩⟩⟩⟩⟩⟩ rfl ?_
  refine kz_iload (M := kt_M558) kX13_tell_c18.1 rfl ?_
  refine kz_aload_n (M := kt_M558) kX13_tell_c18.2.1 rfl ?_
  refine kz_gfc (M := kt_M558) (x := 4104) (c := 12) (o := 0) kX13_tell_c18.2.2.1 wf_X13_205 (.inl rfl) ?_
  refine kz_cs1 (M := kt_M558) (As := [.int x6, .ref (E.2.1 4104)]) (rest := []) kX13_tell_c18.2.2.2.1 wl_X13_1397 wMs_413 rfl (Nat.le_trans (Nat.le_of_ble_eq_true rfl) hL) (Nat.le_of_ble_eq_true rfl) (Nat.le_of_ble_eq_true rfl) h (fun v2 w1 hle h => ?_) (fun _ _ _ h => kzx_no rfl h)
  have h := h hle
  refine kz_sti (M := kt_M558) [(0, .ref (w_adr E.2.1 12 0)), (3, .int x3), (5, .int x5), (7, .int x7), (8, .int x8), (9, .int (x9 + x10))] kX13_tell_c18.2.2.2.2.1 (Nat.le_of_ble_eq_true rfl) ⟨⟨rfl, rfl, .inl rfl⟩, ⟨⟨rfl, rfl, .inl rfl⟩, ⟨⟨rfl, rfl, .inr rfl⟩, ⟨⟨rfl, rfl, .inl rfl⟩, ⟨⟨rfl, rfl, .inl rfl⟩, ⟨⟨rfl, rfl, .inl rfl⟩, trivial⟩⟩⟩⟩⟩⟩ rfl ?_
  refine kz_aload_n (M := kt_M558) kX13_tell_c18.2.2.2.2.2.1 rfl ?_
  refine kz_gfc (M := kt_M558) (x := 4104) (c := 12) (o := 0) kX13_tell_c18.2.2.2.2.2.2.1 wf_X13_205 (.inl rfl) ?_
  refine kz_iload (M := kt_M558) kX13_tell_c18.2.2.2.2.2.2.2.1 rfl ?_
  refine kz_iald (M := kt_M558) (c := 12) (o := 0) (k := 32) (a := (E.2.1 4104)) kX13_tell_c19.1 ow_12_0_32 oa_12_0_32 ot_0 h (fun h => ?_)
  refine kz_sti (M := kt_M558) [(0, .ref (w_adr E.2.1 12 0)), (3, .int x3), (6, .int v2), (7, .int x7), (8, .int x8), (9, .int (x9 + x10))] kX13_tell_c19.2.1 (Nat.le_of_ble_eq_true rfl) ⟨⟨rfl, rfl, .inl rfl⟩, ⟨⟨rfl, rfl, .inl rfl⟩, ⟨⟨rfl, rfl, .inl rfl⟩, ⟨⟨rfl, rfl, .inl rfl⟩, ⟨⟨rfl, rfl, .inl rfl⟩, ⟨⟨rfl, rfl, .inl rfl⟩, trivial⟩⟩⟩⟩⟩⟩ rfl ?_
  refine kz_goto (M := kt_M558) kX13_tell_c19.2.2.1 (t := 156) rfl ?_
  exact kz_weak [(0, .ref (w_adr E.2.1 12 0)), (3, .int x3), (5, .int (w_a w1 12 0 32 (x5).toNatClampNeg)), (6, .int v2), (7, .int x7), (8, .int x8), (9, .int (x9 + x10))] ⟨rfl, ⟨rfl, ⟨rfl, ⟨rfl, ⟨rfl, ⟨rfl, ⟨rfl, trivial⟩⟩⟩⟩⟩⟩⟩ rfl h
def zb_X13_tell_p225 (E : zE) (L : Nat) (Q : kx_Rs → wS → Prop) (x3 : Int32) (x5 : Int32) (x6 : Int32) (x7 : Int32) (x8 : Int32) (x9 : Int32) (x10 : Int32) (x11 : Int32) (w : wS) : Prop := (if x10 ≤ x11 then zb_X13_tell_p262 E L Q x3 x5 x6 x7 x8 x9 x10 w else (kx_inb ((w_i w 12 0 168) + x11) (w_n w 12 0 111) = true ∧ zw E (L - 22) kt_M547 [.ref (w_adr E.2.1 12 0), .int ((x8 + x9) + x11), .int (w_a w 12 0 111 (((w_i w 12 0 168) + x11)).toNatClampNeg)] w (wk0 (fun w1 => wle w w1 → zL_X13_tell_p225 E L Q x3 x5 x6 x7 x8 x9 x10 (x11 + 1) w1) (fun e w => Q (.inr e) w))))
theorem zt_X13_tell_p225 {E : zE} {L : Nat} {Q : kx_Rs → wS → Prop} {x3 : Int32} {x5 : Int32} {x6 : Int32} {x7 : Int32} {x8 : Int32} {x9 : Int32} {x10 : Int32} {x11 : Int32} {w : wS} (hL : 26 ≤ L) (h : zb_X13_tell_p225 E L Q x3 x5 x6 x7 x8 x9 x10 x11 w) : kzE E L kt_M558 225 [(0, .ref (w_adr E.2.1 12 0)), (3, .int x3), (5, .int x5), (6, .int x6), (7, .int x7), (8, .int x8), (9, .int x9), (10, .int x10), (11, .int x11)] [] w Q := by
  unfold zb_X13_tell_p225 at h
  refine kz_iload (M := kt_M558) kX13_tell_c15.2.1 rfl ?_
  refine kz_iload (M := kt_M558) kX13_tell_c15.2.2.1 rfl ?_
  refine kz_icmp_ge (M := kt_M558) kX13_tell_c15.2.2.2.1 (t := 262) rfl h (fun h => ?_) (fun h => ?_)
  · skip
    exact kz_weak [(0, .ref (w_adr E.2.1 12 0)), (3, .int x3), (5, .int x5), (6, .int x6), (7, .int x7), (8, .int x8), (9, .int x9), (10, .int x10)] ⟨rfl, ⟨rfl, ⟨rfl, ⟨rfl, ⟨rfl, ⟨rfl, ⟨rfl, ⟨rfl, trivial⟩⟩⟩⟩⟩⟩⟩⟩ rfl (zt_X13_tell_p262 hL  h)
  · skip
    refine kz_aload_n (M := kt_M558) kX13_tell_c15.2.2.2.2.1 rfl ?_
    refine kz_iload (M := kt_M558) kX13_tell_c15.2.2.2.2.2.1 rfl ?_
    refine kz_iload (M := kt_M558) kX13_tell_c15.2.2.2.2.2.2.1 rfl ?_
    refine kz_iadd (M := kt_M558) kX13_tell_c15.2.2.2.2.2.2.2.1 ?_
    refine kz_iload (M := kt_M558) kX13_tell_c16.1 rfl ?_
    refine kz_iadd (M := kt_M558) kX13_tell_c16.2.1 ?_
    refine kz_aload_n (M := kt_M558) kX13_tell_c16.2.2.1 rfl ?_
    refine kz_gfa (M := kt_M558) (c := 12) (o := 0) kX13_tell_c16.2.2.2.1 wf_X13_350 (.inl rfl) ?_
    refine kz_aload_n (M := kt_M558) kX13_tell_c16.2.2.2.2.1 rfl ?_
    refine kz_gfi (M := kt_M558) (c := 12) (o := 0) kX13_tell_c16.2.2.2.2.2.1 wf_X13_1231 (.inl rfl) ?_
    refine kz_iload (M := kt_M558) kX13_tell_c16.2.2.2.2.2.2.1 rfl ?_
    refine kz_iadd (M := kt_M558) kX13_tell_c16.2.2.2.2.2.2.2.1 ?_
    refine kz_iald (M := kt_M558) (c := 12) (o := 0) (k := 111) (a := (w_d w 12 0 111)) kX13_tell_c17.1 ow_12_0_111 oa_12_0_111 ot_0 h (fun h => ?_)
    refine kz_cv0 (M := kt_M558) (c := 12) (o := 0) (As := [.int ((x8 + x9) + x11), .int (w_a w 12 0 111 (((w_i w 12 0 168) + x11)).toNatClampNeg)]) (rest := []) kX13_tell_c17.2.1 wl_X13_1140 wMv_547 rfl (.inl rfl) rfl (Nat.le_trans (Nat.le_of_ble_eq_true rfl) hL) (Nat.le_of_ble_eq_true rfl) (Nat.le_of_ble_eq_true rfl) h (fun w1 hle h => ?_) (fun _ _ _ h => kzx_no rfl h)
    have h := h hle
    refine kz_inc (M := kt_M558) [(0, .ref (w_adr E.2.1 12 0)), (3, .int x3), (5, .int x5), (6, .int x6), (7, .int x7), (8, .int x8), (9, .int x9), (10, .int x10)] kX13_tell_c17.2.2.1 rfl (Nat.le_of_ble_eq_true rfl) ⟨⟨rfl, rfl, .inl rfl⟩, ⟨⟨rfl, rfl, .inl rfl⟩, ⟨⟨rfl, rfl, .inl rfl⟩, ⟨⟨rfl, rfl, .inl rfl⟩, ⟨⟨rfl, rfl, .inl rfl⟩, ⟨⟨rfl, rfl, .inl rfl⟩, ⟨⟨rfl, rfl, .inl rfl⟩, ⟨⟨rfl, rfl, .inr rfl⟩, trivial⟩⟩⟩⟩⟩⟩⟩⟩ rfl ?_
    refine kz_goto (M := kt_M558) kX13_tell_c17.2.2.2.1 (t := 225) rfl ?_
    exact kz_weak [(0, .ref (w_adr E.2.1 12 0)), (3, .int x3), (5, .int x5), (6, .int x6), (7, .int x7), (8, .int x8), (9, .int x9), (10, .int x10), (11, .int (x11 + 1))] ⟨rfl, ⟨rfl, ⟨rfl, ⟨rfl, ⟨rfl, ⟨rfl, ⟨rfl, ⟨rfl, ⟨rfl, trivial⟩⟩⟩⟩⟩⟩⟩⟩⟩ rfl h
def zb_X13_tell_p156 (E : zE) (L : Nat) (Q : kx_Rs → wS → Prop) (x3 : Int32) (x5 : Int32) (x6 : Int32) (x7 : Int32) (x8 : Int32) (x9 : Int32) (w : wS) : Prop := (if x5 < 0 then (if ¬ x3 = w_i w 12 0 139 then zw E (L - 21) kt_M606 [.ref (w_adr E.2.1 12 0), .int x3] w (wk0 (fun w1 => wle w w1 → (kx_inb (w_i w1 12 0 161) (w_n w1 12 0 157) = true ∧ (kx_inb (w_i w1 12 0 161) (w_n w1 12 0 158) = true ∧ (kx_inb (w_i w1 12 0 161) (w_n w1 12 0 155) = true ∧ (kx_inb (w_i w1 12 0 161) (w_n w1 12 0 147) = true ∧ (if ¬ x3 = w_i w1 12 0 140 then zw E (L - 25) kt_M468 [.ref (w_adr E.2.1 12 0), .int x3] (ws_a (ws_a (ws_a (ws_a w1 12 0 157 (w_i w1 12 0 161).toNatClampNeg x8) 12 0 158 (w_i w1 12 0 161).toNatClampNeg x7) 12 0 155 (w_i w1 12 0 161).toNatClampNeg x3) 12 0 147 (w_i w1 12 0 161).toNatClampNeg 1) (wk0 (fun w3 => wle (ws_a (ws_a (ws_a (ws_a w1 12 0 157 (w_i w1 12 0 161).toNatClampNeg x8) 12 0 158 (w_i w1 12 0 161).toNatClampNeg x7) 12 0 155 (w_i w1 12 0 161).toNatClampNeg x3) 12 0 147 (w_i w1 12 0 161).toNatClampNeg 1) w3 → Q (.inl none) w3) (fun e w => Q (.inr e) w)) else Q (.inl none) (ws_a (ws_a (ws_a (ws_a w1 12 0 157 (w_i w1 12 0 161).toNatClampNeg x8) 12 0 158 (w_i w1 12 0 161).toNatClampNeg x7) 12 0 155 (w_i w1 12 0 161).toNatClampNeg x3) 12 0 147 (w_i w1 12 0 161).toNatClampNeg 1))))))) (fun e w => Q (.inr e) w)) else (if 2000 ≤ w_i w 12 0 135 then zb_X13_tell_p335 E L Q x7 x8 w else zw E (L - 21) kt_M410 [.ref (w_adr E.2.1 12 0), .int x8] w (wk1 (fun v6 w5 => wle w w5 → (kx_inb (w_i w 12 0 135) (w_n w5 12 0 136) = true ∧ zb_X13_tell_p335 E L Q x7 x8 (ws_i (ws_a w5 12 0 136 (w_i w 12 0 135).toNatClampNeg v6) 12 0 135 ((w_i w5 12 0 135) + 1)))) (fun e w => Q (.inr e) w)))) else zw E (L - 21) kt_M505 [.ref (w_adr E.2.1 12 0), .int x6] w (wk1 (fun v8 w7 => wle w w7 → zw E (L - 22) kt_M437 [.ref (w_adr E.2.1 12 0), .int x5] w7 (wk1 (fun v10 w9 => wle w7 w9 → (if ¬ v10 = 0 then zw E (L - 26) kt_M405 [.ref (w_adr E.2.1 12 0), .int x5] w9 (wk0 (fun w11 => wle w9 w11 → (if w_i w11 12 0 169 = v8 then zL_X13_tell_p225 E L Q x3 x5 x6 x7 x8 x9 v8 0 w11 else zw E (L - 21) kt_M408 [.ref (w_adr E.2.1 12 0), .int 9] w11 (wkr (fun v14 w13 => wle w11 w13 → (v14 = some (w_adr E.2.1 13 0) ∧ Q (.inr "MeetingHouseModel$Halt") w13)) (fun e w => Q (.inr e) w)))) (fun e w => Q (.inr e) w)) else zw E (L - 25) kt_M404 [.ref (w_adr E.2.1 12 0), .int x5] w9 (wk1 (fun v16 w15 => wle w9 w15 → zw E (L - 22) kt_M547 [.ref (w_adr E.2.1 12 0), .int (x8 + x9), .int v16] w15 (wk0 (fun w17 => wle w15 w17 → zb_X13_tell_p262 E L Q x3 x5 x6 x7 x8 x9 v8 w17) (fun e w => Q (.inr e) w))) (fun e w => Q (.inr e) w)))) (fun e w => Q (.inr e) w))) (fun e w => Q (.inr e) w)))
theorem zt_X13_tell_p156 {E : zE} {L : Nat} {Q : kx_Rs → wS → Prop} {x3 : Int32} {x5 : Int32} {x6 : Int32} {x7 : Int32} {x8 : Int32} {x9 : Int32} {w : wS} (hL : 26 ≤ L) (h : zb_X13_tell_p156 E L Q x3 x5 x6 x7 x8 x9 w) : kzE E L kt_M558 156 [(0, .ref (w_adr E.2.1 12 0)), (3, .int x3), (5, .int x5), (6, .int x6), (7, .int x7), (8, .int x8), (9, .int x9)] [] w Q := by
  unfold zb_X13_tell_p156 at h
  refine kz_iload (M := kt_M558) kX13_tell_c10.2.2.2.2.2.2.2.1 rfl ?_
  refine kz_if_lt (M := kt_M558) kX13_tell_c11.1 (t := 292) rfl h (fun h => ?_) (fun h => ?_)
  · skip
    refine kz_iload_n (M := kt_M558) kX13_tell_c19.2.2.2.1 rfl ?_
    refine kz_aload_n (M := kt_M558) kX13_tell_c19.2.2.2.2.1 rfl ?_
    refine kz_gfi (M := kt_M558) (c := 12) (o := 0) kX13_tell_c19.2.2.2.2.2.1 wf_X13_1401 (.inl rfl) ?_
    refine kz_icmp_ne (M := kt_M558) kX13_tell_c19.2.2.2.2.2.2.1 (t := 348) rfl h (fun h => ?_) (fun h => ?_)
    · skip
      refine kz_aload_n (M := kt_M558) kX13_tell_c23.1 rfl ?_
      refine kz_iload_n (M := kt_M558) kX13_tell_c23.2.1 rfl ?_
      refine kz_cv0 (M := kt_M558) (c := 12) (o := 0) (As := [.int x3]) (rest := []) kX13_tell_c23.2.2.1 wl_X13_1407 wMv_606 rfl (.inl rfl) rfl (Nat.le_trans (Nat.le_of_ble_eq_true rfl) hL) (Nat.le_of_ble_eq_true rfl) (Nat.le_of_ble_eq_true rfl) h (fun w1 hle h => ?_) (fun _ _ _ h => kzx_no rfl h)
      have h := h hle
      refine kz_aload_n (M := kt_M558) kX13_tell_c23.2.2.2.1 rfl ?_
      refine kz_gfc (M := kt_M558) (x := 4229) (c := 12) (o := 0) kX13_tell_c23.2.2.2.2.1 wf_X13_424 (.inl rfl) ?_
      refine kz_aload_n (M := kt_M558) kX13_tell_c23.2.2.2.2.2.1 rfl ?_
      refine kz_gfi (M := kt_M558) (c := 12) (o := 0) kX13_tell_c23.2.2.2.2.2.2.1 wf_X13_1168 (.inl rfl) ?_
      refine kz_iload (M := kt_M558) kX13_tell_c23.2.2.2.2.2.2.2.1 rfl ?_
      refine kz_iast (M := kt_M558) (c := 12) (o := 0) (k := 157) (a := (E.2.1 4229)) kX13_tell_c24.1 ow_12_0_157 oa_12_0_157 ot_0 h (fun h => ?_)
      refine kz_aload_n (M := kt_M558) kX13_tell_c24.2.1 rfl ?_
      refine kz_gfc (M := kt_M558) (x := 4230) (c := 12) (o := 0) kX13_tell_c24.2.2.1 wf_X13_427 (.inl rfl) ?_
      refine kz_aload_n (M := kt_M558) kX13_tell_c24.2.2.2.1 rfl ?_
      refine kz_gfiR (M := kt_M558) (c := 12) (o := 0) (w_i w1 12 0 161) kX13_tell_c24.2.2.2.2.1 wf_X13_1168 (.inl rfl) rd_i_a ?_
      refine kz_iload (M := kt_M558) kX13_tell_c24.2.2.2.2.2.1 rfl ?_
      refine kz_iastR (M := kt_M558) (n := w_n w1 12 0 158) (c := 12) (o := 0) (k := 158) (a := (E.2.1 4230)) kX13_tell_c24.2.2.2.2.2.2.1 ow_12_0_158 oa_12_0_158 ot_0 rd_n_a h (fun h => ?_)
      refine kz_aload_n (M := kt_M558) kX13_tell_c24.2.2.2.2.2.2.2.1 rfl ?_
      refine kz_gfc (M := kt_M558) (x := 4227) (c := 12) (o := 0) kX13_tell_c25.1 wf_X13_418 (.inl rfl) ?_
      refine kz_aload_n (M := kt_M558) kX13_tell_c25.2.1 rfl ?_
      refine kz_gfiR (M := kt_M558) (c := 12) (o := 0) (w_i w1 12 0 161) kX13_tell_c25.2.2.1 wf_X13_1168 (.inl rfl) (rd_i_a.trans rd_i_a) ?_
      refine kz_iload_n (M := kt_M558) kX13_tell_c25.2.2.2.1 rfl ?_
      refine kz_iastR (M := kt_M558) (n := w_n w1 12 0 155) (c := 12) (o := 0) (k := 155) (a := (E.2.1 4227)) kX13_tell_c25.2.2.2.2.1 ow_12_0_155 oa_12_0_155 ot_0 (rd_n_a.trans rd_n_a) h (fun h => ?_)
      refine kz_aload_n (M := kt_M558) kX13_tell_c25.2.2.2.2.2.1 rfl ?_
      refine kz_gfc (M := kt_M558) (x := 4219) (c := 12) (o := 0) kX13_tell_c25.2.2.2.2.2.2.1 wf_X13_394 (.inl rfl) ?_
      refine kz_aload_n (M := kt_M558) kX13_tell_c25.2.2.2.2.2.2.2.1 rfl ?_
      refine kz_gfiR (M := kt_M558) (c := 12) (o := 0) (w_i w1 12 0 161) kX13_tell_c26.1 wf_X13_1168 (.inl rfl) (rd_i_a.trans (rd_i_a.trans rd_i_a)) ?_
      refine kz_ic (M := kt_M558) 1 kX13_tell_c26.2.1 rfl ?_
      refine kz_iastR (M := kt_M558) (n := w_n w1 12 0 147) (c := 12) (o := 0) (k := 147) (a := (E.2.1 4219)) kX13_tell_c26.2.2.1 ow_12_0_147 oa_12_0_147 ot_0 (rd_n_a.trans (rd_n_a.trans rd_n_a)) h (fun h => ?_)
      refine kz_iload_n (M := kt_M558) kX13_tell_c26.2.2.2.1 rfl ?_
      refine kz_aload_n (M := kt_M558) kX13_tell_c26.2.2.2.2.1 rfl ?_
      refine kz_gfiR (M := kt_M558) (c := 12) (o := 0) (w_i w1 12 0 140) kX13_tell_c26.2.2.2.2.2.1 wf_X13_1410 (.inl rfl) (rd_i_a.trans (rd_i_a.trans (rd_i_a.trans rd_i_a))) ?_
      refine kz_icmp_ne (M := kt_M558) kX13_tell_c26.2.2.2.2.2.2.1 (t := 404) rfl h (fun h => ?_) (fun h => ?_)
      · skip
        refine kz_aload_n (M := kt_M558) kX13_tell_c27.1 rfl ?_
        refine kz_iload_n (M := kt_M558) kX13_tell_c27.2.1 rfl ?_
        refine kz_cv0 (M := kt_M558) (c := 12) (o := 0) (As := [.int x3]) (rest := []) kX13_tell_c27.2.2.1 wl_X13_1413 wMv_468 rfl (.inl rfl) rfl (Nat.le_trans (Nat.le_of_ble_eq_true rfl) hL) (Nat.le_of_ble_eq_true rfl) (Nat.le_of_ble_eq_true rfl) h (fun w3 hle h => ?_) (fun _ _ _ h => kzx_no rfl h)
        have h := h hle
        exact kz_ret (M := kt_M558) kX13_tell_c27.2.2.2.1 rfl h
      · skip
        exact kz_ret (M := kt_M558) kX13_tell_c26.2.2.2.2.2.2.2.1 rfl h
    · skip
      refine kz_aload_n (M := kt_M558) kX13_tell_c19.2.2.2.2.2.2.2.1 rfl ?_
      refine kz_gfi (M := kt_M558) (c := 12) (o := 0) kX13_tell_c20.1 wf_X13_1404 (.inl rfl) ?_
      refine kz_si (M := kt_M558) 2000 kX13_tell_c20.2.1 rfl ?_
      refine kz_icmp_ge (M := kt_M558) kX13_tell_c20.2.2.1 (t := 335) rfl h (fun h => ?_) (fun h => ?_)
      · skip
        exact kz_weak [(0, .ref (w_adr E.2.1 12 0)), (7, .int x7), (8, .int x8)] ⟨rfl, ⟨rfl, ⟨rfl, trivial⟩⟩⟩ rfl (zt_X13_tell_p335 hL  h)
      · skip
        refine kz_aload_n (M := kt_M558) kX13_tell_c20.2.2.2.1 rfl ?_
        refine kz_gfc (M := kt_M558) (x := 4208) (c := 12) (o := 0) kX13_tell_c20.2.2.2.2.1 wf_X13_376 (.inl rfl) ?_
        refine kz_aload_n (M := kt_M558) kX13_tell_c20.2.2.2.2.2.1 rfl ?_
        refine kz_gfi (M := kt_M558) (c := 12) (o := 0) kX13_tell_c20.2.2.2.2.2.2.1 wf_X13_1404 (.inl rfl) ?_
        refine kz_aload_n (M := kt_M558) kX13_tell_c20.2.2.2.2.2.2.2.1 rfl ?_
        refine kz_iload (M := kt_M558) kX13_tell_c21.1 rfl ?_
        refine kz_cv1 (M := kt_M558) (c := 12) (o := 0) (As := [.int x8]) (rest := [.int (w_i w 12 0 135), .ref (E.2.1 4208)]) kX13_tell_c21.2.1 wl_X13_1177 wMv_410 rfl (.inl rfl) rfl (Nat.le_trans (Nat.le_of_ble_eq_true rfl) hL) (Nat.le_of_ble_eq_true rfl) (Nat.le_of_ble_eq_true rfl) h (fun v6 w5 hle h => ?_) (fun _ _ _ h => kzx_no rfl h)
        have h := h hle
        refine kz_iast (M := kt_M558) (c := 12) (o := 0) (k := 136) (a := (E.2.1 4208)) kX13_tell_c21.2.2.1 ow_12_0_136 oa_12_0_136 ot_0 h (fun h => ?_)
        refine kz_aload_n (M := kt_M558) kX13_tell_c21.2.2.2.1 rfl ?_
        refine kz_dup (M := kt_M558) kX13_tell_c21.2.2.2.2.1 rfl ?_
        refine kz_gfiR (M := kt_M558) (c := 12) (o := 0) (w_i w5 12 0 135) kX13_tell_c21.2.2.2.2.2.1 wf_X13_1404 (.inl rfl) rd_i_a ?_
        refine kz_ic (M := kt_M558) 1 kX13_tell_c21.2.2.2.2.2.2.1 rfl ?_
        refine kz_iadd (M := kt_M558) kX13_tell_c21.2.2.2.2.2.2.2.1 ?_
        refine kz_pfi (M := kt_M558) (c := 12) (o := 0) kX13_tell_c22.1 wq_X13_1404 (.inl rfl) ?_
        exact kz_weak [(0, .ref (w_adr E.2.1 12 0)), (7, .int x7), (8, .int x8)] ⟨rfl, ⟨rfl, ⟨rfl, trivial⟩⟩⟩ rfl (zt_X13_tell_p335 hL  h)
  · skip
    refine kz_aload_n (M := kt_M558) kX13_tell_c11.2.1 rfl ?_
    refine kz_iload (M := kt_M558) kX13_tell_c11.2.2.1 rfl ?_
    refine kz_cv1 (M := kt_M558) (c := 12) (o := 0) (As := [.int x6]) (rest := []) kX13_tell_c11.2.2.2.1 wl_X13_1394 wMv_505 rfl (.inl rfl) rfl (Nat.le_trans (Nat.le_of_ble_eq_true rfl) hL) (Nat.le_of_ble_eq_true rfl) (Nat.le_of_ble_eq_true rfl) h (fun v8 w7 hle h => ?_) (fun _ _ _ h => kzx_no rfl h)
    have h := h hle
    refine kz_sti (M := kt_M558) [(0, .ref (w_adr E.2.1 12 0)), (3, .int x3), (5, .int x5), (6, .int x6), (7, .int x7), (8, .int x8), (9, .int x9)] kX13_tell_c11.2.2.2.2.1 (Nat.le_of_ble_eq_true rfl) ⟨⟨rfl, rfl, .inl rfl⟩, ⟨⟨rfl, rfl, .inl rfl⟩, ⟨⟨rfl, rfl, .inl rfl⟩, ⟨⟨rfl, rfl, .inl rfl⟩, ⟨⟨rfl, rfl, .inl rfl⟩, ⟨⟨rfl, rfl, .inl rfl⟩, ⟨⟨rfl, rfl, .inr rfl⟩, trivial⟩⟩⟩⟩⟩⟩⟩ rfl ?_
    refine kz_aload_n (M := kt_M558) kX13_tell_c11.2.2.2.2.2.1 rfl ?_
    refine kz_iload (M := kt_M558) kX13_tell_c11.2.2.2.2.2.2.1 rfl ?_
    refine kz_cv1 (M := kt_M558) (c := 12) (o := 0) (As := [.int x5]) (rest := []) kX13_tell_c11.2.2.2.2.2.2.2.1 wl_X13_1358 wMv_437 rfl (.inl rfl) rfl (Nat.le_trans (Nat.le_of_ble_eq_true rfl) hL) (Nat.le_of_ble_eq_true rfl) (Nat.le_of_ble_eq_true rfl) h (fun v10 w9 hle h => ?_) (fun _ _ _ h => kzx_no rfl h)
    have h := h hle
    refine kz_if_ne (M := kt_M558) kX13_tell_c12.1 (t := 200) rfl h (fun h => ?_) (fun h => ?_)
    · skip
      refine kz_aload_n (M := kt_M558) kX13_tell_c13.2.2.2.2.1 rfl ?_
      refine kz_iload (M := kt_M558) kX13_tell_c13.2.2.2.2.2.1 rfl ?_
      refine kz_cv0 (M := kt_M558) (c := 12) (o := 0) (As := [.int x5]) (rest := []) kX13_tell_c13.2.2.2.2.2.2.1 wl_X13_1225 wMv_405 rfl (.inl rfl) rfl (Nat.le_trans (Nat.le_of_ble_eq_true rfl) hL) (Nat.le_of_ble_eq_true rfl) (Nat.le_of_ble_eq_true rfl) h (fun w11 hle h => ?_) (fun _ _ _ h => kzx_no rfl h)
      have h := h hle
      refine kz_aload_n (M := kt_M558) kX13_tell_c13.2.2.2.2.2.2.2.1 rfl ?_
      refine kz_gfi (M := kt_M558) (c := 12) (o := 0) kX13_tell_c14.1 wf_X13_1234 (.inl rfl) ?_
      refine kz_iload (M := kt_M558) kX13_tell_c14.2.1 rfl ?_
      refine kz_icmp_eq (M := kt_M558) kX13_tell_c14.2.2.1 (t := 222) rfl h (fun h => ?_) (fun h => ?_)
      · skip
        refine kz_ic (M := kt_M558) 0 kX13_tell_c14.2.2.2.2.2.2.2.1 rfl ?_
        refine kz_sti (M := kt_M558) [(0, .ref (w_adr E.2.1 12 0)), (3, .int x3), (5, .int x5), (6, .int x6), (7, .int x7), (8, .int x8), (9, .int x9), (10, .int v8)] kX13_tell_c15.1 (Nat.le_of_ble_eq_true rfl) ⟨⟨rfl, rfl, .inl rfl⟩, ⟨⟨rfl, rfl, .inl rfl⟩, ⟨⟨rfl, rfl, .inl rfl⟩, ⟨⟨rfl, rfl, .inl rfl⟩, ⟨⟨rfl, rfl, .inl rfl⟩, ⟨⟨rfl, rfl, .inl rfl⟩, ⟨⟨rfl, rfl, .inl rfl⟩, ⟨⟨rfl, rfl, .inr rfl⟩, trivial⟩⟩⟩⟩⟩⟩⟩⟩ rfl ?_
        exact kz_weak [(0, .ref (w_adr E.2.1 12 0)), (3, .int x3), (5, .int x5), (6, .int x6), (7, .int x7), (8, .int x8), (9, .int x9), (10, .int v8), (11, .int 0)] ⟨rfl, ⟨rfl, ⟨rfl, ⟨rfl, ⟨rfl, ⟨rfl, ⟨rfl, ⟨rfl, ⟨rfl, trivial⟩⟩⟩⟩⟩⟩⟩⟩⟩ rfl h
      · skip
        refine kz_aload_n (M := kt_M558) kX13_tell_c14.2.2.2.1 rfl ?_
        refine kz_bi (M := kt_M558) 9 kX13_tell_c14.2.2.2.2.1 rfl ?_
        refine kz_cvr (M := kt_M558) (c := 12) (o := 0) (As := [.int 9]) (rest := []) kX13_tell_c14.2.2.2.2.2.1 wl_X13_839 wMv_408 rfl (.inl rfl) rfl (Nat.le_trans (Nat.le_of_ble_eq_true rfl) hL) (Nat.le_of_ble_eq_true rfl) (Nat.le_of_ble_eq_true rfl) h (fun v14 w13 hle h => ?_) (fun _ _ _ h => kzx_no rfl h)
        have h := h hle
        exact kz_throw (M := kt_M558) (c := 13) (o := 0) kX13_tell_c14.2.2.2.2.2.2.1 rfl (.inl rfl) h (fun h => kzx_no rfl h)
    · skip
      refine kz_aload_n (M := kt_M558) kX13_tell_c12.2.1 rfl ?_
      refine kz_iload (M := kt_M558) kX13_tell_c12.2.2.1 rfl ?_
      refine kz_cv1 (M := kt_M558) (c := 12) (o := 0) (As := [.int x5]) (rest := []) kX13_tell_c12.2.2.2.1 wl_X13_1207 wMv_404 rfl (.inl rfl) rfl (Nat.le_trans (Nat.le_of_ble_eq_true rfl) hL) (Nat.le_of_ble_eq_true rfl) (Nat.le_of_ble_eq_true rfl) h (fun v16 w15 hle h => ?_) (fun _ _ _ h => kzx_no rfl h)
      have h := h hle
      refine kz_sti (M := kt_M558) [(0, .ref (w_adr E.2.1 12 0)), (3, .int x3), (5, .int x5), (6, .int x6), (7, .int x7), (8, .int x8), (9, .int x9), (10, .int v8)] kX13_tell_c12.2.2.2.2.1 (Nat.le_of_ble_eq_true rfl) ⟨⟨rfl, rfl, .inl rfl⟩, ⟨⟨rfl, rfl, .inl rfl⟩, ⟨⟨rfl, rfl, .inl rfl⟩, ⟨⟨rfl, rfl, .inl rfl⟩, ⟨⟨rfl, rfl, .inl rfl⟩, ⟨⟨rfl, rfl, .inl rfl⟩, ⟨⟨rfl, rfl, .inl rfl⟩, ⟨⟨rfl, rfl, .inr rfl⟩, trivial⟩⟩⟩⟩⟩⟩⟩⟩ rfl ?_
      refine kz_aload_n (M := kt_M558) kX13_tell_c12.2.2.2.2.2.1 rfl ?_
      refine kz_iload (M := kt_M558) kX13_tell_c12.2.2.2.2.2.2.1 rfl ?_
      refine kz_iload (M := kt_M558) kX13_tell_c12.2.2.2.2.2.2.2.1 rfl ?_
      refine kz_iadd (M := kt_M558) kX13_tell_c13.1 ?_
      refine kz_iload (M := kt_M558) kX13_tell_c13.2.1 rfl ?_
      refine kz_cv0 (M := kt_M558) (c := 12) (o := 0) (As := [.int (x8 + x9), .int v16]) (rest := []) kX13_tell_c13.2.2.1 wl_X13_1140 wMv_547 rfl (.inl rfl) rfl (Nat.le_trans (Nat.le_of_ble_eq_true rfl) hL) (Nat.le_of_ble_eq_true rfl) (Nat.le_of_ble_eq_true rfl) h (fun w17 hle h => ?_) (fun _ _ _ h => kzx_no rfl h)
      have h := h hle
      refine kz_goto (M := kt_M558) kX13_tell_c13.2.2.2.1 (t := 262) rfl ?_
      exact kz_weak [(0, .ref (w_adr E.2.1 12 0)), (3, .int x3), (5, .int x5), (6, .int x6), (7, .int x7), (8, .int x8), (9, .int x9), (10, .int v8)] ⟨rfl, ⟨rfl, ⟨rfl, ⟨rfl, ⟨rfl, ⟨rfl, ⟨rfl, ⟨rfl, trivial⟩⟩⟩⟩⟩⟩⟩⟩ rfl (zt_X13_tell_p262 hL  h)
def zb_X13_tell_p79 (E : zE) (L : Nat) (Q : kx_Rs → wS → Prop) (x3 : Int32) (x4 : Int32) (x5 : Int32) (x6 : Int32) (x7 : Int32) (x8 : Int32) (w : wS) : Prop := (if x8 = (-1) then zw E (L - 23) kt_M524 [.ref (w_adr E.2.1 12 0), .int x7] w (wk1 (fun v2 w1 => wle w w1 → (if x4 = 0 then zL_X13_tell_p156 E L Q x3 x5 x6 x7 v2 0 w1 else (kx_inb x5 (w_n w1 12 0 31) = true ∧ (kx_inb (w_a w1 12 0 31 (x5).toNatClampNeg) (w_n w1 12 0 48) = true ∧ zw E (L - 22) kt_M547 [.ref (w_adr E.2.1 12 0), .int v2, .int (w_a w1 12 0 48 (w_a w1 12 0 31 (x5).toNatClampNeg).toNatClampNeg)] w1 (wk0 (fun w3 => wle w1 w3 → (kx_inb x5 (w_n w3 12 0 32) = true ∧ zL_X13_tell_p156 E L Q x3 (w_a w3 12 0 32 (x5).toNatClampNeg) x6 x7 v2 1 w3)) (fun e w => Q (.inr e) w)))))) (fun e w => Q (.inr e) w)) else zw E (L - 21) kt_M505 [.ref (w_adr E.2.1 12 0), .int x8] w (wk1 (fun v6 w5 => wle w w5 → zw E (L - 21) kt_M413 [.int x8, .ref (E.2.1 4104)] w5 (wk1 (fun v8 w7 => wle w5 w7 → zL_X13_tell_p79 E L Q x3 x4 x5 x6 (x7 + v6) v8 w7) (fun e w => Q (.inr e) w))) (fun e w => Q (.inr e) w)))
theorem zt_X13_tell_p79 {E : zE} {L : Nat} {Q : kx_Rs → wS → Prop} {x3 : Int32} {x4 : Int32} {x5 : Int32} {x6 : Int32} {x7 : Int32} {x8 : Int32} {w : wS} (hL : 26 ≤ L) (h : zb_X13_tell_p79 E L Q x3 x4 x5 x6 x7 x8 w) : kzE E L kt_M558 79 [(0, .ref (w_adr E.2.1 12 0)), (3, .int x3), (4, .int x4), (5, .int x5), (6, .int x6), (7, .int x7), (8, .int x8)] [] w Q := by
  unfold zb_X13_tell_p79 at h
  refine kz_iload (M := kt_M558) kX13_tell_c5.2.2.2.2.2.2.2.1 rfl ?_
  refine kz_ic (M := kt_M558) (-1) kX13_tell_c6.1 rfl ?_
  refine kz_icmp_eq (M := kt_M558) kX13_tell_c6.2.1 (t := 110) rfl h (fun h => ?_) (fun h => ?_)
  · skip
    refine kz_aload_n (M := kt_M558) kX13_tell_c7.2.2.2.2.2.2.1 rfl ?_
    refine kz_iload (M := kt_M558) kX13_tell_c7.2.2.2.2.2.2.2.1 rfl ?_
    refine kz_cv1 (M := kt_M558) (c := 12) (o := 0) (As := [.int x7]) (rest := []) kX13_tell_c8.1 wl_X13_1174 wMv_524 rfl (.inl rfl) rfl (Nat.le_trans (Nat.le_of_ble_eq_true rfl) hL) (Nat.le_of_ble_eq_true rfl) (Nat.le_of_ble_eq_true rfl) h (fun v2 w1 hle h => ?_) (fun _ _ _ h => kzx_no rfl h)
    have h := h hle
    refine kz_sti (M := kt_M558) [(0, .ref (w_adr E.2.1 12 0)), (3, .int x3), (4, .int x4), (5, .int x5), (6, .int x6), (7, .int x7)] kX13_tell_c8.2.1 (Nat.le_of_ble_eq_true rfl) ⟨⟨rfl, rfl, .inl rfl⟩, ⟨⟨rfl, rfl, .inl rfl⟩, ⟨⟨rfl, rfl, .inl rfl⟩, ⟨⟨rfl, rfl, .inl rfl⟩, ⟨⟨rfl, rfl, .inl rfl⟩, ⟨⟨rfl, rfl, .inr rfl⟩, trivial⟩⟩⟩⟩⟩⟩ rfl ?_
    refine kz_ic (M := kt_M558) 0 kX13_tell_c8.2.2.1 rfl ?_
    refine kz_sti (M := kt_M558) [(0, .ref (w_adr E.2.1 12 0)), (3, .int x3), (4, .int x4), (5, .int x5), (6, .int x6), (7, .int x7), (8, .int v2)] kX13_tell_c8.2.2.2.1 (Nat.le_of_ble_eq_true rfl) ⟨⟨rfl, rfl, .inl rfl⟩, ⟨⟨rfl, rfl, .inl rfl⟩, ⟨⟨rfl, rfl, .inl rfl⟩, ⟨⟨rfl, rfl, .inl rfl⟩, ⟨⟨rfl, rfl, .inl rfl⟩, ⟨⟨rfl, rfl, .inl rfl⟩, ⟨⟨rfl, rfl, .inr rfl⟩, trivial⟩⟩⟩⟩⟩⟩⟩ rfl ?_
    refine kz_iload (M := kt_M558) kX13_tell_c8.2.2.2.2.1 rfl ?_
    refine kz_if_eq (M := kt_M558) kX13_tell_c8.2.2.2.2.2.1 (t := 156) rfl h (fun h => ?_) (fun h => ?_)
    · skip
      exact kz_weak [(0, .ref (w_adr E.2.1 12 0)), (3, .int x3), (5, .int x5), (6, .int x6), (7, .int x7), (8, .int v2), (9, .int 0)] ⟨rfl, ⟨rfl, ⟨rfl, ⟨rfl, ⟨rfl, ⟨rfl, ⟨rfl, trivial⟩⟩⟩⟩⟩⟩⟩ rfl h
    · skip
      refine kz_aload_n (M := kt_M558) kX13_tell_c8.2.2.2.2.2.2.1 rfl ?_
      refine kz_iload (M := kt_M558) kX13_tell_c8.2.2.2.2.2.2.2.1 rfl ?_
      refine kz_aload_n (M := kt_M558) kX13_tell_c9.1 rfl ?_
      refine kz_gfc (M := kt_M558) (x := 4120) (c := 12) (o := 0) kX13_tell_c9.2.1 wf_X13_229 (.inl rfl) ?_
      refine kz_aload_n (M := kt_M558) kX13_tell_c9.2.2.1 rfl ?_
      refine kz_gfc (M := kt_M558) (x := 4103) (c := 12) (o := 0) kX13_tell_c9.2.2.2.1 wf_X13_202 (.inl rfl) ?_
      refine kz_iload (M := kt_M558) kX13_tell_c9.2.2.2.2.1 rfl ?_
      refine kz_iald (M := kt_M558) (c := 12) (o := 0) (k := 31) (a := (E.2.1 4103)) kX13_tell_c9.2.2.2.2.2.1 ow_12_0_31 oa_12_0_31 ot_0 h (fun h => ?_)
      refine kz_iald (M := kt_M558) (c := 12) (o := 0) (k := 48) (a := (E.2.1 4120)) kX13_tell_c9.2.2.2.2.2.2.1 ow_12_0_48 oa_12_0_48 ot_0 h (fun h => ?_)
      refine kz_cv0 (M := kt_M558) (c := 12) (o := 0) (As := [.int v2, .int (w_a w1 12 0 48 (w_a w1 12 0 31 (x5).toNatClampNeg).toNatClampNeg)]) (rest := []) kX13_tell_c9.2.2.2.2.2.2.2.1 wl_X13_1140 wMv_547 rfl (.inl rfl) rfl (Nat.le_trans (Nat.le_of_ble_eq_true rfl) hL) (Nat.le_of_ble_eq_true rfl) (Nat.le_of_ble_eq_true rfl) h (fun w3 hle h => ?_) (fun _ _ _ h => kzx_no rfl h)
      have h := h hle
      refine kz_ic (M := kt_M558) 1 kX13_tell_c10.1 rfl ?_
      refine kz_sti (M := kt_M558) [(0, .ref (w_adr E.2.1 12 0)), (3, .int x3), (5, .int x5), (6, .int x6), (7, .int x7), (8, .int v2)] kX13_tell_c10.2.1 (Nat.le_of_ble_eq_true rfl) ⟨⟨rfl, rfl, .inl rfl⟩, ⟨⟨rfl, rfl, .inl rfl⟩, ⟨⟨rfl, rfl, .inl rfl⟩, ⟨⟨rfl, rfl, .inl rfl⟩, ⟨⟨rfl, rfl, .inl rfl⟩, ⟨⟨rfl, rfl, .inr rfl⟩, trivial⟩⟩⟩⟩⟩⟩ rfl ?_
      refine kz_aload_n (M := kt_M558) kX13_tell_c10.2.2.1 rfl ?_
      refine kz_gfc (M := kt_M558) (x := 4104) (c := 12) (o := 0) kX13_tell_c10.2.2.2.1 wf_X13_205 (.inl rfl) ?_
      refine kz_iload (M := kt_M558) kX13_tell_c10.2.2.2.2.1 rfl ?_
      refine kz_iald (M := kt_M558) (c := 12) (o := 0) (k := 32) (a := (E.2.1 4104)) kX13_tell_c10.2.2.2.2.2.1 ow_12_0_32 oa_12_0_32 ot_0 h (fun h => ?_)
      refine kz_sti (M := kt_M558) [(0, .ref (w_adr E.2.1 12 0)), (3, .int x3), (6, .int x6), (7, .int x7), (8, .int v2), (9, .int 1)] kX13_tell_c10.2.2.2.2.2.2.1 (Nat.le_of_ble_eq_true rfl) ⟨⟨rfl, rfl, .inl rfl⟩, ⟨⟨rfl, rfl, .inl rfl⟩, ⟨⟨rfl, rfl, .inl rfl⟩, ⟨⟨rfl, rfl, .inl rfl⟩, ⟨⟨rfl, rfl, .inl rfl⟩, ⟨⟨rfl, rfl, .inl rfl⟩, trivial⟩⟩⟩⟩⟩⟩ rfl ?_
      exact kz_weak [(0, .ref (w_adr E.2.1 12 0)), (3, .int x3), (5, .int (w_a w3 12 0 32 (x5).toNatClampNeg)), (6, .int x6), (7, .int x7), (8, .int v2), (9, .int 1)] ⟨rfl, ⟨rfl, ⟨rfl, ⟨rfl, ⟨rfl, ⟨rfl, ⟨rfl, trivial⟩⟩⟩⟩⟩⟩⟩ rfl h
  · skip
    refine kz_iload (M := kt_M558) kX13_tell_c6.2.2.1 rfl ?_
    refine kz_aload_n (M := kt_M558) kX13_tell_c6.2.2.2.1 rfl ?_
    refine kz_iload (M := kt_M558) kX13_tell_c6.2.2.2.2.1 rfl ?_
    refine kz_cv1 (M := kt_M558) (c := 12) (o := 0) (As := [.int x8]) (rest := [.int x7]) kX13_tell_c6.2.2.2.2.2.1 wl_X13_1394 wMv_505 rfl (.inl rfl) rfl (Nat.le_trans (Nat.le_of_ble_eq_true rfl) hL) (Nat.le_of_ble_eq_true rfl) (Nat.le_of_ble_eq_true rfl) h (fun v6 w5 hle h => ?_) (fun _ _ _ h => kzx_no rfl h)
    have h := h hle
    refine kz_iadd (M := kt_M558) kX13_tell_c6.2.2.2.2.2.2.1 ?_
    refine kz_sti (M := kt_M558) [(0, .ref (w_adr E.2.1 12 0)), (3, .int x3), (4, .int x4), (5, .int x5), (6, .int x6), (8, .int x8)] kX13_tell_c6.2.2.2.2.2.2.2.1 (Nat.le_of_ble_eq_true rfl) ⟨⟨rfl, rfl, .inl rfl⟩, ⟨⟨rfl, rfl, .inl rfl⟩, ⟨⟨rfl, rfl, .inl rfl⟩, ⟨⟨rfl, rfl, .inl rfl⟩, ⟨⟨rfl, rfl, .inr rfl⟩, ⟨⟨rfl, rfl, .inl rfl⟩, trivial⟩⟩⟩⟩⟩⟩ rfl ?_
    refine kz_iload (M := kt_M558) kX13_tell_c7.1 rfl ?_
    refine kz_aload_n (M := kt_M558) kX13_tell_c7.2.1 rfl ?_
    refine kz_gfc (M := kt_M558) (x := 4104) (c := 12) (o := 0) kX13_tell_c7.2.2.1 wf_X13_205 (.inl rfl) ?_
    refine kz_cs1 (M := kt_M558) (As := [.int x8, .ref (E.2.1 4104)]) (rest := []) kX13_tell_c7.2.2.2.1 wl_X13_1397 wMs_413 rfl (Nat.le_trans (Nat.le_of_ble_eq_true rfl) hL) (Nat.le_of_ble_eq_true rfl) (Nat.le_of_ble_eq_true rfl) h (fun v8 w7 hle h => ?_) (fun _ _ _ h => kzx_no rfl h)
    have h := h hle
    refine kz_sti (M := kt_M558) [(0, .ref (w_adr E.2.1 12 0)), (3, .int x3), (4, .int x4), (5, .int x5), (6, .int x6), (7, .int (x7 + v6))] kX13_tell_c7.2.2.2.2.1 (Nat.le_of_ble_eq_true rfl) ⟨⟨rfl, rfl, .inl rfl⟩, ⟨⟨rfl, rfl, .inl rfl⟩, ⟨⟨rfl, rfl, .inl rfl⟩, ⟨⟨rfl, rfl, .inl rfl⟩, ⟨⟨rfl, rfl, .inl rfl⟩, ⟨⟨rfl, rfl, .inr rfl⟩, trivial⟩⟩⟩⟩⟩⟩ rfl ?_
    refine kz_goto (M := kt_M558) kX13_tell_c7.2.2.2.2.2.1 (t := 79) rfl ?_
    exact kz_weak [(0, .ref (w_adr E.2.1 12 0)), (3, .int x3), (4, .int x4), (5, .int x5), (6, .int x6), (7, .int (x7 + v6)), (8, .int v8)] ⟨rfl, ⟨rfl, ⟨rfl, ⟨rfl, ⟨rfl, ⟨rfl, ⟨rfl, trivial⟩⟩⟩⟩⟩⟩⟩ rfl h
def zb_X13_tell_p75 (E : zE) (L : Nat) (Q : kx_Rs → wS → Prop) (x3 : Int32) (x4 : Int32) (x5 : Int32) (x6 : Int32) (x7 : Int32) (w : wS) : Prop := zL_X13_tell_p79 E L Q x3 x4 x5 x6 x7 x6 w
theorem zt_X13_tell_p75 {E : zE} {L : Nat} {Q : kx_Rs → wS → Prop} {x3 : Int32} {x4 : Int32} {x5 : Int32} {x6 : Int32} {x7 : Int32} {w : wS} (hL : 26 ≤ L) (h : zb_X13_tell_p75 E L Q x3 x4 x5 x6 x7 w) : kzE E L kt_M558 75 [(0, .ref (w_adr E.2.1 12 0)), (3, .int x3), (4, .int x4), (5, .int x5), (6, .int x6), (7, .int x7)] [] w Q := by
  unfold zb_X13_tell_p75 at h
  refine kz_iload (M := kt_M558) kX13_tell_c5.2.2.2.2.2.1 rfl ?_
  refine kz_sti (M := kt_M558) [(0, .ref (w_adr E.2.1 12 0)), (3, .int x3), (4, .int x4), (5, .int x5), (6, .int x6), (7, .int x7)] kX13_tell_c5.2.2.2.2.2.2.1 (Nat.le_of_ble_eq_true rfl) ⟨⟨rfl, rfl, .inl rfl⟩, ⟨⟨rfl, rfl, .inl rfl⟩, ⟨⟨rfl, rfl, .inl rfl⟩, ⟨⟨rfl, rfl, .inl rfl⟩, ⟨⟨rfl, rfl, .inl rfl⟩, ⟨⟨rfl, rfl, .inr rfl⟩, trivial⟩⟩⟩⟩⟩⟩ rfl ?_
  exact kz_weak [(0, .ref (w_adr E.2.1 12 0)), (3, .int x3), (4, .int x4), (5, .int x5), (6, .int x6), (7, .int x7), (8, .int x6)] ⟨rfl, ⟨rfl, ⟨rfl, ⟨rfl, ⟨rfl, ⟨rfl, ⟨rfl, trivial⟩⟩⟩⟩⟩⟩⟩ rfl h
def zb_X13_tell_p0 (E : zE) (L : Nat) (Q : kx_Rs → wS → Prop) (x1 : Int32) (w : wS) : Prop := (kx_inb x1 (w_n w 12 0 28) = true ∧ (kx_inb (w_a w 12 0 28 (x1).toNatClampNeg) (w_n w 12 0 31) = true ∧ (kx_inb x1 (w_n w 12 0 28) = true ∧ zw E (L - 21) kt_M370 [.ref (w_adr E.2.1 12 0), .int (w_a w 12 0 28 (x1).toNatClampNeg)] w (wk1 (fun v2 w1 => wle w w1 → zw E (L - 21) kt_M427 [.ref (w_adr E.2.1 12 0), .int (w_a w 12 0 31 (w_a w 12 0 28 (x1).toNatClampNeg).toNatClampNeg)] w1 (wk1 (fun v4 w3 => wle w1 w3 → (kx_inb x1 (w_n w3 12 0 29) = true ∧ zw E (L - 22) kt_M508 [.ref (w_adr E.2.1 12 0), .int (w_a w 12 0 31 (w_a w 12 0 28 (x1).toNatClampNeg).toNatClampNeg)] w3 (wk1 (fun v6 w5 => wle w3 w5 → (if v4 = 0 then zb_X13_tell_p75 E L Q v2 v4 (w_a w3 12 0 29 (x1).toNatClampNeg) v6 0 w5 else (kx_inb (w_a w3 12 0 29 (x1).toNatClampNeg) (w_n w5 12 0 31) = true ∧ (kx_inb (w_a w5 12 0 31 (w_a w3 12 0 29 (x1).toNatClampNeg).toNatClampNeg) (w_n w5 12 0 49) = true ∧ (kx_inb (w_a w5 12 0 49 (w_a w5 12 0 31 (w_a w3 12 0 29 (x1).toNatClampNeg).toNatClampNeg).toNatClampNeg) (w_n w5 12 0 29) = true ∧ zb_X13_tell_p75 E L Q v2 v4 (w_a w3 12 0 29 (x1).toNatClampNeg) (w_a w5 12 0 29 (w_a w5 12 0 49 (w_a w5 12 0 31 (w_a w3 12 0 29 (x1).toNatClampNeg).toNatClampNeg).toNatClampNeg).toNatClampNeg) 1 w5))))) (fun e w => Q (.inr e) w)))) (fun e w => Q (.inr e) w))) (fun e w => Q (.inr e) w)))))
theorem zt_X13_tell_p0 {E : zE} {L : Nat} {Q : kx_Rs → wS → Prop} {x1 : Int32} {w : wS} (hL : 26 ≤ L) (h : zb_X13_tell_p0 E L Q x1 w) : kzE E L kt_M558 0 [(0, .ref (w_adr E.2.1 12 0)), (1, .int x1)] [] w Q := by
  unfold zb_X13_tell_p0 at h
  refine kz_aload_n (M := kt_M558) kX13_tell_c0.1 rfl ?_
  refine kz_gfc (M := kt_M558) (x := 4103) (c := 12) (o := 0) kX13_tell_c0.2.1 wf_X13_202 (.inl rfl) ?_
  refine kz_aload_n (M := kt_M558) kX13_tell_c0.2.2.1 rfl ?_
  refine kz_gfc (M := kt_M558) (x := 4100) (c := 12) (o := 0) kX13_tell_c0.2.2.2.1 wf_X13_193 (.inl rfl) ?_
  refine kz_iload_n (M := kt_M558) kX13_tell_c0.2.2.2.2.1 rfl ?_
  refine kz_iald (M := kt_M558) (c := 12) (o := 0) (k := 28) (a := (E.2.1 4100)) kX13_tell_c0.2.2.2.2.2.1 ow_12_0_28 oa_12_0_28 ot_0 h (fun h => ?_)
  refine kz_iald (M := kt_M558) (c := 12) (o := 0) (k := 31) (a := (E.2.1 4103)) kX13_tell_c0.2.2.2.2.2.2.1 ow_12_0_31 oa_12_0_31 ot_0 h (fun h => ?_)
  refine kz_sti_n (M := kt_M558) [(0, .ref (w_adr E.2.1 12 0)), (1, .int x1)] kX13_tell_c0.2.2.2.2.2.2.2.1 (Nat.le_of_ble_eq_true rfl) ⟨⟨rfl, rfl, .inl rfl⟩, ⟨⟨rfl, rfl, .inr rfl⟩, trivial⟩⟩ rfl ?_
  refine kz_aload_n (M := kt_M558) kX13_tell_c1.1 rfl ?_
  refine kz_aload_n (M := kt_M558) kX13_tell_c1.2.1 rfl ?_
  refine kz_gfc (M := kt_M558) (x := 4100) (c := 12) (o := 0) kX13_tell_c1.2.2.1 wf_X13_193 (.inl rfl) ?_
  refine kz_iload_n (M := kt_M558) kX13_tell_c1.2.2.2.1 rfl ?_
  refine kz_iald (M := kt_M558) (c := 12) (o := 0) (k := 28) (a := (E.2.1 4100)) kX13_tell_c1.2.2.2.2.1 ow_12_0_28 oa_12_0_28 ot_0 h (fun h => ?_)
  refine kz_cv1 (M := kt_M558) (c := 12) (o := 0) (As := [.int (w_a w 12 0 28 (x1).toNatClampNeg)]) (rest := []) kX13_tell_c1.2.2.2.2.2.1 wl_X13_1391 wMv_370 rfl (.inl rfl) rfl (Nat.le_trans (Nat.le_of_ble_eq_true rfl) hL) (Nat.le_of_ble_eq_true rfl) (Nat.le_of_ble_eq_true rfl) h (fun v2 w1 hle h => ?_) (fun _ _ _ h => kzx_no rfl h)
  have h := h hle
  refine kz_sti_n (M := kt_M558) [(0, .ref (w_adr E.2.1 12 0)), (1, .int x1), (2, .int (w_a w 12 0 31 (w_a w 12 0 28 (x1).toNatClampNeg).toNatClampNeg))] kX13_tell_c1.2.2.2.2.2.2.1 (Nat.le_of_ble_eq_true rfl) ⟨⟨rfl, rfl, .inl rfl⟩, ⟨⟨rfl, rfl, .inl rfl⟩, ⟨⟨rfl, rfl, .inr rfl⟩, trivial⟩⟩⟩ rfl ?_
  refine kz_aload_n (M := kt_M558) kX13_tell_c1.2.2.2.2.2.2.2.1 rfl ?_
  refine kz_iload_n (M := kt_M558) kX13_tell_c2.1 rfl ?_
  refine kz_cv1 (M := kt_M558) (c := 12) (o := 0) (As := [.int (w_a w 12 0 31 (w_a w 12 0 28 (x1).toNatClampNeg).toNatClampNeg)]) (rest := []) kX13_tell_c2.2.1 wl_X13_784 wMv_427 rfl (.inl rfl) rfl (Nat.le_trans (Nat.le_of_ble_eq_true rfl) hL) (Nat.le_of_ble_eq_true rfl) (Nat.le_of_ble_eq_true rfl) h (fun v4 w3 hle h => ?_) (fun _ _ _ h => kzx_no rfl h)
  have h := h hle
  refine kz_sti (M := kt_M558) [(0, .ref (w_adr E.2.1 12 0)), (1, .int x1), (2, .int (w_a w 12 0 31 (w_a w 12 0 28 (x1).toNatClampNeg).toNatClampNeg)), (3, .int v2)] kX13_tell_c2.2.2.1 (Nat.le_of_ble_eq_true rfl) ⟨⟨rfl, rfl, .inl rfl⟩, ⟨⟨rfl, rfl, .inl rfl⟩, ⟨⟨rfl, rfl, .inl rfl⟩, ⟨⟨rfl, rfl, .inr rfl⟩, trivial⟩⟩⟩⟩ rfl ?_
  refine kz_aload_n (M := kt_M558) kX13_tell_c2.2.2.2.1 rfl ?_
  refine kz_gfc (M := kt_M558) (x := 4101) (c := 12) (o := 0) kX13_tell_c2.2.2.2.2.1 wf_X13_196 (.inl rfl) ?_
  refine kz_iload_n (M := kt_M558) kX13_tell_c2.2.2.2.2.2.1 rfl ?_
  refine kz_iald (M := kt_M558) (c := 12) (o := 0) (k := 29) (a := (E.2.1 4101)) kX13_tell_c2.2.2.2.2.2.2.1 ow_12_0_29 oa_12_0_29 ot_0 h (fun h => ?_)
  refine kz_sti (M := kt_M558) [(0, .ref (w_adr E.2.1 12 0)), (2, .int (w_a w 12 0 31 (w_a w 12 0 28 (x1).toNatClampNeg).toNatClampNeg)), (3, .int v2), (4, .int v4)] kX13_tell_c2.2.2.2.2.2.2.2.1 (Nat.le_of_ble_eq_true rfl) ⟨⟨rfl, rfl, .inl rfl⟩, ⟨⟨rfl, rfl, .inl rfl⟩, ⟨⟨rfl, rfl, .inl rfl⟩, ⟨⟨rfl, rfl, .inr rfl⟩, trivial⟩⟩⟩⟩ rfl ?_
  refine kz_aload_n (M := kt_M558) kX13_tell_c3.1 rfl ?_
  refine kz_iload_n (M := kt_M558) kX13_tell_c3.2.1 rfl ?_
  refine kz_cv1 (M := kt_M558) (c := 12) (o := 0) (As := [.int (w_a w 12 0 31 (w_a w 12 0 28 (x1).toNatClampNeg).toNatClampNeg)]) (rest := []) kX13_tell_c3.2.2.1 wl_X13_904 wMv_508 rfl (.inl rfl) rfl (Nat.le_trans (Nat.le_of_ble_eq_true rfl) hL) (Nat.le_of_ble_eq_true rfl) (Nat.le_of_ble_eq_true rfl) h (fun v6 w5 hle h => ?_) (fun _ _ _ h => kzx_no rfl h)
  have h := h hle
  refine kz_sti (M := kt_M558) [(0, .ref (w_adr E.2.1 12 0)), (3, .int v2), (4, .int v4), (5, .int (w_a w3 12 0 29 (x1).toNatClampNeg))] kX13_tell_c3.2.2.2.1 (Nat.le_of_ble_eq_true rfl) ⟨⟨rfl, rfl, .inl rfl⟩, ⟨⟨rfl, rfl, .inl rfl⟩, ⟨⟨rfl, rfl, .inl rfl⟩, ⟨⟨rfl, rfl, .inr rfl⟩, trivial⟩⟩⟩⟩ rfl ?_
  refine kz_ic (M := kt_M558) 0 kX13_tell_c3.2.2.2.2.1 rfl ?_
  refine kz_sti (M := kt_M558) [(0, .ref (w_adr E.2.1 12 0)), (3, .int v2), (4, .int v4), (5, .int (w_a w3 12 0 29 (x1).toNatClampNeg)), (6, .int v6)] kX13_tell_c3.2.2.2.2.2.1 (Nat.le_of_ble_eq_true rfl) ⟨⟨rfl, rfl, .inl rfl⟩, ⟨⟨rfl, rfl, .inl rfl⟩, ⟨⟨rfl, rfl, .inl rfl⟩, ⟨⟨rfl, rfl, .inl rfl⟩, ⟨⟨rfl, rfl, .inr rfl⟩, trivial⟩⟩⟩⟩⟩ rfl ?_
  refine kz_iload (M := kt_M558) kX13_tell_c3.2.2.2.2.2.2.1 rfl ?_
  refine kz_if_eq (M := kt_M558) kX13_tell_c3.2.2.2.2.2.2.2.1 (t := 75) rfl h (fun h => ?_) (fun h => ?_)
  · skip
    exact kz_weak [(0, .ref (w_adr E.2.1 12 0)), (3, .int v2), (4, .int v4), (5, .int (w_a w3 12 0 29 (x1).toNatClampNeg)), (6, .int v6), (7, .int 0)] ⟨rfl, ⟨rfl, ⟨rfl, ⟨rfl, ⟨rfl, ⟨rfl, trivial⟩⟩⟩⟩⟩⟩ rfl (zt_X13_tell_p75 hL  h)
  · skip
    refine kz_aload_n (M := kt_M558) kX13_tell_c4.1 rfl ?_
    refine kz_gfc (M := kt_M558) (x := 4101) (c := 12) (o := 0) kX13_tell_c4.2.1 wf_X13_196 (.inl rfl) ?_
    refine kz_aload_n (M := kt_M558) kX13_tell_c4.2.2.1 rfl ?_
    refine kz_gfc (M := kt_M558) (x := 4121) (c := 12) (o := 0) kX13_tell_c4.2.2.2.1 wf_X13_232 (.inl rfl) ?_
    refine kz_aload_n (M := kt_M558) kX13_tell_c4.2.2.2.2.1 rfl ?_
    refine kz_gfc (M := kt_M558) (x := 4103) (c := 12) (o := 0) kX13_tell_c4.2.2.2.2.2.1 wf_X13_202 (.inl rfl) ?_
    refine kz_iload (M := kt_M558) kX13_tell_c4.2.2.2.2.2.2.1 rfl ?_
    refine kz_iald (M := kt_M558) (c := 12) (o := 0) (k := 31) (a := (E.2.1 4103)) kX13_tell_c4.2.2.2.2.2.2.2.1 ow_12_0_31 oa_12_0_31 ot_0 h (fun h => ?_)
    refine kz_iald (M := kt_M558) (c := 12) (o := 0) (k := 49) (a := (E.2.1 4121)) kX13_tell_c5.1 ow_12_0_49 oa_12_0_49 ot_0 h (fun h => ?_)
    refine kz_iald (M := kt_M558) (c := 12) (o := 0) (k := 29) (a := (E.2.1 4101)) kX13_tell_c5.2.1 ow_12_0_29 oa_12_0_29 ot_0 h (fun h => ?_)
    refine kz_sti (M := kt_M558) [(0, .ref (w_adr E.2.1 12 0)), (3, .int v2), (4, .int v4), (5, .int (w_a w3 12 0 29 (x1).toNatClampNeg))] kX13_tell_c5.2.2.1 (Nat.le_of_ble_eq_true rfl) ⟨⟨rfl, rfl, .inl rfl⟩, ⟨⟨rfl, rfl, .inl rfl⟩, ⟨⟨rfl, rfl, .inl rfl⟩, ⟨⟨rfl, rfl, .inr rfl⟩, trivial⟩⟩⟩⟩ rfl ?_
    refine kz_ic (M := kt_M558) 1 kX13_tell_c5.2.2.2.1 rfl ?_
    refine kz_sti (M := kt_M558) [(0, .ref (w_adr E.2.1 12 0)), (3, .int v2), (4, .int v4), (5, .int (w_a w3 12 0 29 (x1).toNatClampNeg)), (6, .int (w_a w5 12 0 29 (w_a w5 12 0 49 (w_a w5 12 0 31 (w_a w3 12 0 29 (x1).toNatClampNeg).toNatClampNeg).toNatClampNeg).toNatClampNeg))] kX13_tell_c5.2.2.2.2.1 (Nat.le_of_ble_eq_true rfl) ⟨⟨rfl, rfl, .inl rfl⟩, ⟨⟨rfl, rfl, .inl rfl⟩, ⟨⟨rfl, rfl, .inl rfl⟩, ⟨⟨rfl, rfl, .inl rfl⟩, ⟨⟨rfl, rfl, .inr rfl⟩, trivial⟩⟩⟩⟩⟩ rfl ?_
    exact kz_weak [(0, .ref (w_adr E.2.1 12 0)), (3, .int v2), (4, .int v4), (5, .int (w_a w3 12 0 29 (x1).toNatClampNeg)), (6, .int (w_a w5 12 0 29 (w_a w5 12 0 49 (w_a w5 12 0 31 (w_a w3 12 0 29 (x1).toNatClampNeg).toNatClampNeg).toNatClampNeg).toNatClampNeg)), (7, .int 1)] ⟨rfl, ⟨rfl, ⟨rfl, ⟨rfl, ⟨rfl, ⟨rfl, trivial⟩⟩⟩⟩⟩⟩ rfl (zt_X13_tell_p75 hL  h)
def zb_X13_channel_p31 (E : zE) (L : Nat) (Q : kx_Rs → wS → Prop) (y0 : Int32) (w : wS) : Prop := Q (.inl (some (.int y0))) w
theorem zt_X13_channel_p31 {E : zE} {L : Nat} {Q : kx_Rs → wS → Prop} {y0 : Int32} {w : wS} (hL : 23 ≤ L) (h : zb_X13_channel_p31 E L Q y0 w) : kzE E L kt_M370 31 [(0, .ref (w_adr E.2.1 12 0))] [.int y0] w Q := by
  unfold zb_X13_channel_p31 at h
  exact kz_iret (M := kt_M370) kX13_channel_c2.2.1 rfl rfl h
def zb_X13_channel_p0 (E : zE) (L : Nat) (Q : kx_Rs → wS → Prop) (x1 : Int32) (w : wS) : Prop := (kx_inb x1 (w_n w 12 0 28) = true ∧ (if w_a w 12 0 28 (x1).toNatClampNeg < 0 then (kx_inb x1 (w_n w 12 0 31) = true ∧ zw E (L - 21) kt_M540 [.ref (w_adr E.2.1 12 0), .int (w_a w 12 0 31 (x1).toNatClampNeg)] w (wk1 (fun v2 w1 => wle w w1 → zw E (L - 21) kt_M410 [.ref (w_adr E.2.1 12 0), .int v2] w1 (wk1 (fun v4 w3 => wle w1 w3 → zb_X13_channel_p31 E L Q v4 w3) (fun e w => Q (.inr e) w))) (fun e w => Q (.inr e) w))) else zw E (L - 23) kt_M433 [.ref (w_adr E.2.1 12 0), .int x1] w (wk1 (fun v6 w5 => wle w w5 → zb_X13_channel_p31 E L Q v6 w5) (fun e w => Q (.inr e) w))))
theorem zt_X13_channel_p0 {E : zE} {L : Nat} {Q : kx_Rs → wS → Prop} {x1 : Int32} {w : wS} (hL : 23 ≤ L) (h : zb_X13_channel_p0 E L Q x1 w) : kzE E L kt_M370 0 [(0, .ref (w_adr E.2.1 12 0)), (1, .int x1)] [] w Q := by
  unfold zb_X13_channel_p0 at h
  refine kz_aload_n (M := kt_M370) kX13_channel_c0.1 rfl ?_
  refine kz_gfc (M := kt_M370) (x := 4100) (c := 12) (o := 0) kX13_channel_c0.2.1 wf_X13_193 (.inl rfl) ?_
  refine kz_iload_n (M := kt_M370) kX13_channel_c0.2.2.1 rfl ?_
  refine kz_iald (M := kt_M370) (c := 12) (o := 0) (k := 28) (a := (E.2.1 4100)) kX13_channel_c0.2.2.2.1 ow_12_0_28 oa_12_0_28 ot_0 h (fun h => ?_)
  refine kz_if_lt (M := kt_M370) kX13_channel_c0.2.2.2.2.1 (t := 17) rfl h (fun h => ?_) (fun h => ?_)
  · skip
    refine kz_aload_n (M := kt_M370) kX13_channel_c1.2.1 rfl ?_
    refine kz_aload_n (M := kt_M370) kX13_channel_c1.2.2.1 rfl ?_
    refine kz_aload_n (M := kt_M370) kX13_channel_c1.2.2.2.1 rfl ?_
    refine kz_gfc (M := kt_M370) (x := 4103) (c := 12) (o := 0) kX13_channel_c1.2.2.2.2.1 wf_X13_202 (.inl rfl) ?_
    refine kz_iload_n (M := kt_M370) kX13_channel_c1.2.2.2.2.2.1 rfl ?_
    refine kz_iald (M := kt_M370) (c := 12) (o := 0) (k := 31) (a := (E.2.1 4103)) kX13_channel_c1.2.2.2.2.2.2.1 ow_12_0_31 oa_12_0_31 ot_0 h (fun h => ?_)
    refine kz_cv1 (M := kt_M370) (c := 12) (o := 0) (As := [.int (w_a w 12 0 31 (x1).toNatClampNeg)]) (rest := [.ref (w_adr E.2.1 12 0)]) kX13_channel_c1.2.2.2.2.2.2.2.1 wl_X13_1210 wMv_540 rfl (.inl rfl) rfl (Nat.le_trans (Nat.le_of_ble_eq_true rfl) hL) (Nat.le_of_ble_eq_true rfl) (Nat.le_of_ble_eq_true rfl) h (fun v2 w1 hle h => ?_) (fun _ _ _ h => kzx_no rfl h)
    have h := h hle
    refine kz_cv1 (M := kt_M370) (c := 12) (o := 0) (As := [.int v2]) (rest := []) kX13_channel_c2.1 wl_X13_1177 wMv_410 rfl (.inl rfl) rfl (Nat.le_trans (Nat.le_of_ble_eq_true rfl) hL) (Nat.le_of_ble_eq_true rfl) (Nat.le_of_ble_eq_true rfl) h (fun v4 w3 hle h => ?_) (fun _ _ _ h => kzx_no rfl h)
    have h := h hle
    exact kz_weak [(0, .ref (w_adr E.2.1 12 0))] ⟨rfl, trivial⟩ rfl (zt_X13_channel_p31 hL  h)
  · skip
    refine kz_aload_n (M := kt_M370) kX13_channel_c0.2.2.2.2.2.1 rfl ?_
    refine kz_iload_n (M := kt_M370) kX13_channel_c0.2.2.2.2.2.2.1 rfl ?_
    refine kz_cv1 (M := kt_M370) (c := 12) (o := 0) (As := [.int x1]) (rest := []) kX13_channel_c0.2.2.2.2.2.2.2.1 wl_X13_1219 wMv_433 rfl (.inl rfl) rfl (Nat.le_trans (Nat.le_of_ble_eq_true rfl) hL) (Nat.le_of_ble_eq_true rfl) (Nat.le_of_ble_eq_true rfl) h (fun v6 w5 hle h => ?_) (fun _ _ _ h => kzx_no rfl h)
    have h := h hle
    refine kz_goto (M := kt_M370) kX13_channel_c1.1 (t := 31) rfl ?_
    exact kz_weak [(0, .ref (w_adr E.2.1 12 0))] ⟨rfl, trivial⟩ rfl (zt_X13_channel_p31 hL  h)
def zb_X13_partSize_p29 (E : zE) (L : Nat) (Q : kx_Rs → wS → Prop) (y0 : Int32) (w : wS) : Prop := Q (.inl (some (.int y0))) w
theorem zt_X13_partSize_p29 {E : zE} {L : Nat} {Q : kx_Rs → wS → Prop} {y0 : Int32} {w : wS} (hL : 24 ≤ L) (h : zb_X13_partSize_p29 E L Q y0 w) : kzE E L kt_M505 29 [(0, .ref (w_adr E.2.1 12 0))] [.int y0] w Q := by
  unfold zb_X13_partSize_p29 at h
  exact kz_iret (M := kt_M505) kX13_partSize_c2.1 rfl rfl h
def zb_X13_partSize_p15 (E : zE) (L : Nat) (Q : kx_Rs → wS → Prop) (w : wS) : Prop := zb_X13_partSize_p29 E L Q 1 w
theorem zt_X13_partSize_p15 {E : zE} {L : Nat} {Q : kx_Rs → wS → Prop} {w : wS} (hL : 24 ≤ L) (h : zb_X13_partSize_p15 E L Q  w) : kzE E L kt_M505 15 [(0, .ref (w_adr E.2.1 12 0))] [] w Q := by
  unfold zb_X13_partSize_p15 at h
  refine kz_ic (M := kt_M505) 1 kX13_partSize_c1.1 rfl ?_
  refine kz_goto (M := kt_M505) kX13_partSize_c1.2.1 (t := 29) rfl ?_
  exact kz_weak [(0, .ref (w_adr E.2.1 12 0))] ⟨rfl, trivial⟩ rfl (zt_X13_partSize_p29 hL  h)
def zb_X13_partSize_p0 (E : zE) (L : Nat) (Q : kx_Rs → wS → Prop) (x1 : Int32) (w : wS) : Prop := (if x1 = (-2) then zb_X13_partSize_p15 E L Q w else (kx_inb x1 (w_n w 12 0 28) = true ∧ (if 0 ≤ w_a w 12 0 28 (x1).toNatClampNeg then (kx_inb x1 (w_n w 12 0 28) = true ∧ zw E (L - 24) kt_M377 [.ref (w_adr E.2.1 12 0), .int (w_a w 12 0 28 (x1).toNatClampNeg)] w (wk1 (fun v2 w1 => wle w w1 → zb_X13_partSize_p29 E L Q v2 w1) (fun e w => Q (.inr e) w))) else zb_X13_partSize_p15 E L Q w)))
theorem zt_X13_partSize_p0 {E : zE} {L : Nat} {Q : kx_Rs → wS → Prop} {x1 : Int32} {w : wS} (hL : 24 ≤ L) (h : zb_X13_partSize_p0 E L Q x1 w) : kzE E L kt_M505 0 [(0, .ref (w_adr E.2.1 12 0)), (1, .int x1)] [] w Q := by
  unfold zb_X13_partSize_p0 at h
  refine kz_iload_n (M := kt_M505) kX13_partSize_c0.1 rfl ?_
  refine kz_bi (M := kt_M505) (-2) kX13_partSize_c0.2.1 rfl ?_
  refine kz_icmp_eq (M := kt_M505) kX13_partSize_c0.2.2.1 (t := 15) rfl h (fun h => ?_) (fun h => ?_)
  · skip
    exact kz_weak [(0, .ref (w_adr E.2.1 12 0))] ⟨rfl, trivial⟩ rfl (zt_X13_partSize_p15 hL  h)
  · skip
    refine kz_aload_n (M := kt_M505) kX13_partSize_c0.2.2.2.1 rfl ?_
    refine kz_gfc (M := kt_M505) (x := 4100) (c := 12) (o := 0) kX13_partSize_c0.2.2.2.2.1 wf_X13_193 (.inl rfl) ?_
    refine kz_iload_n (M := kt_M505) kX13_partSize_c0.2.2.2.2.2.1 rfl ?_
    refine kz_iald (M := kt_M505) (c := 12) (o := 0) (k := 28) (a := (E.2.1 4100)) kX13_partSize_c0.2.2.2.2.2.2.1 ow_12_0_28 oa_12_0_28 ot_0 h (fun h => ?_)
    refine kz_if_ge (M := kt_M505) kX13_partSize_c0.2.2.2.2.2.2.2.1 (t := 19) rfl h (fun h => ?_) (fun h => ?_)
    · skip
      refine kz_aload_n (M := kt_M505) kX13_partSize_c1.2.2.1 rfl ?_
      refine kz_aload_n (M := kt_M505) kX13_partSize_c1.2.2.2.1 rfl ?_
      refine kz_gfc (M := kt_M505) (x := 4100) (c := 12) (o := 0) kX13_partSize_c1.2.2.2.2.1 wf_X13_193 (.inl rfl) ?_
      refine kz_iload_n (M := kt_M505) kX13_partSize_c1.2.2.2.2.2.1 rfl ?_
      refine kz_iald (M := kt_M505) (c := 12) (o := 0) (k := 28) (a := (E.2.1 4100)) kX13_partSize_c1.2.2.2.2.2.2.1 ow_12_0_28 oa_12_0_28 ot_0 h (fun h => ?_)
      refine kz_cv1 (M := kt_M505) (c := 12) (o := 0) (As := [.int (w_a w 12 0 28 (x1).toNatClampNeg)]) (rest := []) kX13_partSize_c1.2.2.2.2.2.2.2.1 wl_X13_824 wMv_377 rfl (.inl rfl) rfl (Nat.le_trans (Nat.le_of_ble_eq_true rfl) hL) (Nat.le_of_ble_eq_true rfl) (Nat.le_of_ble_eq_true rfl) h (fun v2 w1 hle h => ?_) (fun _ _ _ h => kzx_no rfl h)
      have h := h hle
      exact kz_weak [(0, .ref (w_adr E.2.1 12 0))] ⟨rfl, trivial⟩ rfl (zt_X13_partSize_p29 hL  h)
    · skip
      exact kz_weak [(0, .ref (w_adr E.2.1 12 0))] ⟨rfl, trivial⟩ rfl (zt_X13_partSize_p15 hL  h)
def zb_X13_following_p11 (E : zE) (L : Nat) (Q : kx_Rs → wS → Prop) (y0 : Int32) (w : wS) : Prop := Q (.inl (some (.int y0))) w
theorem zt_X13_following_p11 {E : zE} {L : Nat} {Q : kx_Rs → wS → Prop} {y0 : Int32} {w : wS} (hL : 19 ≤ L) (h : zb_X13_following_p11 E L Q y0 w) : kzE E L kt_M413 11 [] [.int y0] w Q := by
  unfold zb_X13_following_p11 at h
  exact kz_iret (M := kt_M413) kX13_following_c0.2.2.2.2.2.2.2.1 rfl rfl h
def zb_X13_following_p0 (E : zE) (L : Nat) (Q : kx_Rs → wS → Prop) (x0 : Int32) (c1 o1 k1 : Nat) (w : wS) : Prop := (if 0 ≤ x0 then (kx_inb x0 (w_n w c1 o1 k1) = true ∧ zb_X13_following_p11 E L Q (w_a w c1 o1 k1 (x0).toNatClampNeg) w) else zb_X13_following_p11 E L Q (-1) w)
theorem zt_X13_following_p0 {E : zE} {L : Nat} {Q : kx_Rs → wS → Prop} {x0 : Int32} {c1 o1 k1 : Nat} {w : wS} (hL : 19 ≤ L) (ho1 : w_own w wG E.2.1 0 c1 o1 k1) (h : zb_X13_following_p0 E L Q x0 c1 o1 k1 w) : kzE E L kt_M413 0 [(0, .int x0), (1, .ref (w_aa wG E.2.1 w c1 o1 k1))] [] w Q := by
  unfold zb_X13_following_p0 at h
  refine kz_iload_n (M := kt_M413) kX13_following_c0.1 rfl ?_
  refine kz_if_ge (M := kt_M413) kX13_following_c0.2.1 (t := 8) rfl h (fun h => ?_) (fun h => ?_)
  · skip
    refine kz_aload_n (M := kt_M413) kX13_following_c0.2.2.2.2.1 rfl ?_
    refine kz_iload_n (M := kt_M413) kX13_following_c0.2.2.2.2.2.1 rfl ?_
    refine kz_iald (M := kt_M413) (c := c1) (o := o1) (k := k1) (a := (w_aa wG E.2.1 w c1 o1 k1)) kX13_following_c0.2.2.2.2.2.2.1 ho1 rfl ot_0 h (fun h => ?_)
    exact kz_weak [] trivial rfl (zt_X13_following_p11 hL  h)
  · skip
    refine kz_ic (M := kt_M413) (-1) kX13_following_c0.2.2.1 rfl ?_
    refine kz_goto (M := kt_M413) kX13_following_c0.2.2.2.1 (t := 11) rfl ?_
    exact kz_weak [] trivial rfl (zt_X13_following_p11 hL  h)
def zb_X13_wrote_p23 (E : zE) (L : Nat) (Q : kx_Rs → wS → Prop) (x1 : Int32) (w : wS) : Prop := (kx_inb (w_i w 12 0 161) (w_n w 12 0 146) = true ∧ (kx_inb x1 (w_n w 12 0 112) = true ∧ Q (.inl none) (ws_a w 12 0 112 (x1).toNatClampNeg (w_a w 12 0 146 (w_i w 12 0 161).toNatClampNeg))))
theorem zt_X13_wrote_p23 {E : zE} {L : Nat} {Q : kx_Rs → wS → Prop} {x1 : Int32} {w : wS} (hL : 22 ≤ L) (h : zb_X13_wrote_p23 E L Q x1 w) : kzE E L kt_M606 23 [(0, .ref (w_adr E.2.1 12 0)), (1, .int x1)] [] w Q := by
  unfold zb_X13_wrote_p23 at h
  refine kz_aload_n (M := kt_M606) kX13_wrote_c1.2.2.2.2.2.1 rfl ?_
  refine kz_gfa (M := kt_M606) (c := 12) (o := 0) kX13_wrote_c1.2.2.2.2.2.2.1 wf_X13_353 (.inl rfl) ?_
  refine kz_iload_n (M := kt_M606) kX13_wrote_c1.2.2.2.2.2.2.2.1 rfl ?_
  refine kz_aload_n (M := kt_M606) kX13_wrote_c2.1 rfl ?_
  refine kz_gfc (M := kt_M606) (x := 4218) (c := 12) (o := 0) kX13_wrote_c2.2.1 wf_X13_391 (.inl rfl) ?_
  refine kz_aload_n (M := kt_M606) kX13_wrote_c2.2.2.1 rfl ?_
  refine kz_gfi (M := kt_M606) (c := 12) (o := 0) kX13_wrote_c2.2.2.2.1 wf_X13_1168 (.inl rfl) ?_
  refine kz_iald (M := kt_M606) (c := 12) (o := 0) (k := 146) (a := (E.2.1 4218)) kX13_wrote_c2.2.2.2.2.1 ow_12_0_146 oa_12_0_146 ot_0 h (fun h => ?_)
  refine kz_iast (M := kt_M606) (c := 12) (o := 0) (k := 112) (a := (w_d w 12 0 112)) kX13_wrote_c2.2.2.2.2.2.1 ow_12_0_112 oa_12_0_112 ot_0 h (fun h => ?_)
  exact kz_ret (M := kt_M606) kX13_wrote_c2.2.2.2.2.2.2.1 rfl h
def zb_X13_wrote_p0 (E : zE) (L : Nat) (Q : kx_Rs → wS → Prop) (x1 : Int32) (w : wS) : Prop := (kx_inb x1 (w_n w 12 0 112) = true ∧ zw E (L - 22) kt_M439 [.ref (w_adr E.2.1 12 0), .int (w_a w 12 0 112 (x1).toNatClampNeg)] w (wk1 (fun v2 w1 => wle w w1 → (if v2 = 0 then zb_X13_wrote_p23 E L Q x1 w1 else zb_X13_wrote_p23 E L Q x1 (ws_i w1 12 0 132 ((w_i w1 12 0 132) + 1)))) (fun e w => Q (.inr e) w)))
theorem zt_X13_wrote_p0 {E : zE} {L : Nat} {Q : kx_Rs → wS → Prop} {x1 : Int32} {w : wS} (hL : 22 ≤ L) (h : zb_X13_wrote_p0 E L Q x1 w) : kzE E L kt_M606 0 [(0, .ref (w_adr E.2.1 12 0)), (1, .int x1)] [] w Q := by
  unfold zb_X13_wrote_p0 at h
  refine kz_aload_n (M := kt_M606) kX13_wrote_c0.1 rfl ?_
  refine kz_aload_n (M := kt_M606) kX13_wrote_c0.2.1 rfl ?_
  refine kz_gfa (M := kt_M606) (c := 12) (o := 0) kX13_wrote_c0.2.2.1 wf_X13_353 (.inl rfl) ?_
  refine kz_iload_n (M := kt_M606) kX13_wrote_c0.2.2.2.1 rfl ?_
  refine kz_iald (M := kt_M606) (c := 12) (o := 0) (k := 112) (a := (w_d w 12 0 112)) kX13_wrote_c0.2.2.2.2.1 ow_12_0_112 oa_12_0_112 ot_0 h (fun h => ?_)
  refine kz_cv1 (M := kt_M606) (c := 12) (o := 0) (As := [.int (w_a w 12 0 112 (x1).toNatClampNeg)]) (rest := []) kX13_wrote_c0.2.2.2.2.2.1 wl_X13_1195 wMv_439 rfl (.inl rfl) rfl (Nat.le_trans (Nat.le_of_ble_eq_true rfl) hL) (Nat.le_of_ble_eq_true rfl) (Nat.le_of_ble_eq_true rfl) h (fun v2 w1 hle h => ?_) (fun _ _ _ h => kzx_no rfl h)
  have h := h hle
  refine kz_if_eq (M := kt_M606) kX13_wrote_c0.2.2.2.2.2.2.1 (t := 23) rfl h (fun h => ?_) (fun h => ?_)
  · skip
    exact kz_weak [(0, .ref (w_adr E.2.1 12 0)), (1, .int x1)] ⟨rfl, ⟨rfl, trivial⟩⟩ rfl (zt_X13_wrote_p23 hL  h)
  · skip
    refine kz_aload_n (M := kt_M606) kX13_wrote_c0.2.2.2.2.2.2.2.1 rfl ?_
    refine kz_dup (M := kt_M606) kX13_wrote_c1.1 rfl ?_
    refine kz_gfi (M := kt_M606) (c := 12) (o := 0) kX13_wrote_c1.2.1 wf_X13_1198 (.inl rfl) ?_
    refine kz_ic (M := kt_M606) 1 kX13_wrote_c1.2.2.1 rfl ?_
    refine kz_iadd (M := kt_M606) kX13_wrote_c1.2.2.2.1 ?_
    refine kz_pfi (M := kt_M606) (c := 12) (o := 0) kX13_wrote_c1.2.2.2.2.1 wq_X13_1198 (.inl rfl) ?_
    exact kz_weak [(0, .ref (w_adr E.2.1 12 0)), (1, .int x1)] ⟨rfl, ⟨rfl, trivial⟩⟩ rfl (zt_X13_wrote_p23 hL  h)
def zL_X13_meetReader_p19 (E : zE) (L : Nat) (Q : kx_Rs → wS → Prop) (x1 : Int32) (x4 : Int32) (w : wS) : Prop := kzE E L kt_M468 19 [(0, .ref (w_adr E.2.1 12 0)), (1, .int x1), (4, .int x4)] [] w Q
def zb_X13_meetReader_p164 (E : zE) (L : Nat) (Q : kx_Rs → wS → Prop) (w : wS) : Prop := Q (.inl none) w
theorem zt_X13_meetReader_p164 {E : zE} {L : Nat} {Q : kx_Rs → wS → Prop} {w : wS} (hL : 31 ≤ L) (h : zb_X13_meetReader_p164 E L Q  w) : kzE E L kt_M468 164 [(0, .ref (w_adr E.2.1 12 0))] [] w Q := by
  unfold zb_X13_meetReader_p164 at h
  exact kz_ret (M := kt_M468) kX13_meetReader_c11.2.2.2.1 rfl h
def zb_X13_meetReader_p72 (E : zE) (L : Nat) (Q : kx_Rs → wS → Prop) (x1 : Int32) (x4 : Int32) (w : wS) : Prop := zL_X13_meetReader_p19 E L Q x1 (x4 + 1) w
theorem zt_X13_meetReader_p72 {E : zE} {L : Nat} {Q : kx_Rs → wS → Prop} {x1 : Int32} {x4 : Int32} {w : wS} (hL : 31 ≤ L) (h : zb_X13_meetReader_p72 E L Q x1 x4 w) : kzE E L kt_M468 72 [(0, .ref (w_adr E.2.1 12 0)), (1, .int x1), (4, .int x4)] [] w Q := by
  unfold zb_X13_meetReader_p72 at h
  refine kz_inc (M := kt_M468) [(0, .ref (w_adr E.2.1 12 0)), (1, .int x1)] kX13_meetReader_c5.2.1 rfl (Nat.le_of_ble_eq_true rfl) ⟨⟨rfl, rfl, .inl rfl⟩, ⟨⟨rfl, rfl, .inl rfl⟩, trivial⟩⟩ rfl ?_
  refine kz_goto (M := kt_M468) kX13_meetReader_c5.2.2.1 (t := 19) rfl ?_
  exact kz_weak [(0, .ref (w_adr E.2.1 12 0)), (1, .int x1), (4, .int (x4 + 1))] ⟨rfl, ⟨rfl, ⟨rfl, trivial⟩⟩⟩ rfl h
def zb_X13_meetReader_p19 (E : zE) (L : Nat) (Q : kx_Rs → wS → Prop) (x1 : Int32) (x4 : Int32) (w : wS) : Prop := (if w_i w 12 0 143 ≤ x4 then Q (.inl none) w else (kx_inb x4 (w_n w 12 0 144) = true ∧ (kx_inb (w_a w 12 0 144 (x4).toNatClampNeg) (w_n w 12 0 147) = true ∧ (if ¬ w_a w 12 0 147 (w_a w 12 0 144 (x4).toNatClampNeg).toNatClampNeg = 3 then zb_X13_meetReader_p72 E L Q x1 x4 w else (kx_inb x4 (w_n w 12 0 144) = true ∧ zw E (L - 23) kt_M425 [.ref (w_adr E.2.1 12 0), .int (w_a w 12 0 144 (x4).toNatClampNeg), .int x1] w (wk1 (fun v2 w1 => wle w w1 → (if v2 = 0 then zb_X13_meetReader_p72 E L Q x1 x4 w1 else (kx_inb x4 (w_n w1 12 0 144) = true ∧ (kx_inb (w_a w1 12 0 144 (x4).toNatClampNeg) (w_n w1 12 0 147) = true ∧ zb_X13_meetReader_p72 E L Q x1 x4 (ws_a w1 12 0 147 (w_a w1 12 0 144 (x4).toNatClampNeg).toNatClampNeg 0))))) (fun e w => Q (.inr e) w)))))))
theorem zt_X13_meetReader_p19 {E : zE} {L : Nat} {Q : kx_Rs → wS → Prop} {x1 : Int32} {x4 : Int32} {w : wS} (hL : 31 ≤ L) (h : zb_X13_meetReader_p19 E L Q x1 x4 w) : kzE E L kt_M468 19 [(0, .ref (w_adr E.2.1 12 0)), (1, .int x1), (4, .int x4)] [] w Q := by
  unfold zb_X13_meetReader_p19 at h
  refine kz_iload (M := kt_M468) kX13_meetReader_c1.2.2.2.2.1 rfl ?_
  refine kz_aload_n (M := kt_M468) kX13_meetReader_c1.2.2.2.2.2.1 rfl ?_
  refine kz_gfi (M := kt_M468) (c := 12) (o := 0) kX13_meetReader_c1.2.2.2.2.2.2.1 wf_X13_1186 (.inl rfl) ?_
  refine kz_icmp_ge (M := kt_M468) kX13_meetReader_c1.2.2.2.2.2.2.2.1 (t := 78) rfl h (fun h => ?_) (fun h => ?_)
  · skip
    exact kz_ret (M := kt_M468) kX13_meetReader_c5.2.2.2.1 rfl h
  · skip
    refine kz_aload_n (M := kt_M468) kX13_meetReader_c2.1 rfl ?_
    refine kz_gfc (M := kt_M468) (x := 4219) (c := 12) (o := 0) kX13_meetReader_c2.2.1 wf_X13_394 (.inl rfl) ?_
    refine kz_aload_n (M := kt_M468) kX13_meetReader_c2.2.2.1 rfl ?_
    refine kz_gfc (M := kt_M468) (x := 4216) (c := 12) (o := 0) kX13_meetReader_c2.2.2.2.1 wf_X13_385 (.inl rfl) ?_
    refine kz_iload (M := kt_M468) kX13_meetReader_c2.2.2.2.2.1 rfl ?_
    refine kz_iald (M := kt_M468) (c := 12) (o := 0) (k := 144) (a := (E.2.1 4216)) kX13_meetReader_c2.2.2.2.2.2.1 ow_12_0_144 oa_12_0_144 ot_0 h (fun h => ?_)
    refine kz_iald (M := kt_M468) (c := 12) (o := 0) (k := 147) (a := (E.2.1 4219)) kX13_meetReader_c2.2.2.2.2.2.2.1 ow_12_0_147 oa_12_0_147 ot_0 h (fun h => ?_)
    refine kz_ic (M := kt_M468) 3 kX13_meetReader_c2.2.2.2.2.2.2.2.1 rfl ?_
    refine kz_icmp_ne (M := kt_M468) kX13_meetReader_c3.1 (t := 72) rfl h (fun h => ?_) (fun h => ?_)
    · skip
      exact kz_weak [(0, .ref (w_adr E.2.1 12 0)), (1, .int x1), (4, .int x4)] ⟨rfl, ⟨rfl, ⟨rfl, trivial⟩⟩⟩ rfl (zt_X13_meetReader_p72 hL  h)
    · skip
      refine kz_aload_n (M := kt_M468) kX13_meetReader_c3.2.1 rfl ?_
      refine kz_aload_n (M := kt_M468) kX13_meetReader_c3.2.2.1 rfl ?_
      refine kz_gfc (M := kt_M468) (x := 4216) (c := 12) (o := 0) kX13_meetReader_c3.2.2.2.1 wf_X13_385 (.inl rfl) ?_
      refine kz_iload (M := kt_M468) kX13_meetReader_c3.2.2.2.2.1 rfl ?_
      refine kz_iald (M := kt_M468) (c := 12) (o := 0) (k := 144) (a := (E.2.1 4216)) kX13_meetReader_c3.2.2.2.2.2.1 ow_12_0_144 oa_12_0_144 ot_0 h (fun h => ?_)
      refine kz_iload_n (M := kt_M468) kX13_meetReader_c3.2.2.2.2.2.2.1 rfl ?_
      refine kz_cv1 (M := kt_M468) (c := 12) (o := 0) (As := [.int (w_a w 12 0 144 (x4).toNatClampNeg), .int x1]) (rest := []) kX13_meetReader_c3.2.2.2.2.2.2.2.1 wl_X13_1419 wMv_425 rfl (.inl rfl) rfl (Nat.le_trans (Nat.le_of_ble_eq_true rfl) hL) (Nat.le_of_ble_eq_true rfl) (Nat.le_of_ble_eq_true rfl) h (fun v2 w1 hle h => ?_) (fun _ _ _ h => kzx_no rfl h)
      have h := h hle
      refine kz_if_eq (M := kt_M468) kX13_meetReader_c4.1 (t := 72) rfl h (fun h => ?_) (fun h => ?_)
      · skip
        exact kz_weak [(0, .ref (w_adr E.2.1 12 0)), (1, .int x1), (4, .int x4)] ⟨rfl, ⟨rfl, ⟨rfl, trivial⟩⟩⟩ rfl (zt_X13_meetReader_p72 hL  h)
      · skip
        refine kz_aload_n (M := kt_M468) kX13_meetReader_c4.2.1 rfl ?_
        refine kz_gfc (M := kt_M468) (x := 4219) (c := 12) (o := 0) kX13_meetReader_c4.2.2.1 wf_X13_394 (.inl rfl) ?_
        refine kz_aload_n (M := kt_M468) kX13_meetReader_c4.2.2.2.1 rfl ?_
        refine kz_gfc (M := kt_M468) (x := 4216) (c := 12) (o := 0) kX13_meetReader_c4.2.2.2.2.1 wf_X13_385 (.inl rfl) ?_
        refine kz_iload (M := kt_M468) kX13_meetReader_c4.2.2.2.2.2.1 rfl ?_
        refine kz_iald (M := kt_M468) (c := 12) (o := 0) (k := 144) (a := (E.2.1 4216)) kX13_meetReader_c4.2.2.2.2.2.2.1 ow_12_0_144 oa_12_0_144 ot_0 h (fun h => ?_)
        refine kz_ic (M := kt_M468) 0 kX13_meetReader_c4.2.2.2.2.2.2.2.1 rfl ?_
        refine kz_iast (M := kt_M468) (c := 12) (o := 0) (k := 147) (a := (E.2.1 4219)) kX13_meetReader_c5.1 ow_12_0_147 oa_12_0_147 ot_0 h (fun h => ?_)
        exact kz_weak [(0, .ref (w_adr E.2.1 12 0)), (1, .int x1), (4, .int x4)] ⟨rfl, ⟨rfl, ⟨rfl, trivial⟩⟩⟩ rfl (zt_X13_meetReader_p72 hL  h)
def zb_X13_meetReader_p0 (E : zE) (L : Nat) (Q : kx_Rs → wS → Prop) (x1 : Int32) (w : wS) : Prop := zw E (L - 23) kt_M597 [.ref (w_adr E.2.1 12 0), .int 2, .int x1] w (wk1 (fun v2 w1 => wle w w1 → (if 0 ≤ v2 then zw E (L - 20) kt_M529 [.ref (w_adr E.2.1 12 0)] w1 (wk0 (fun w3 => wle w1 w3 → zw E (L - 21) kt_M460 [.ref (w_adr E.2.1 12 0), .int v2] w3 (wk0 (fun w5 => wle w3 w5 → zw E (L - 22) kt_M403 [.ref (w_adr E.2.1 12 0), .int (w_i w5 12 0 163), .int 1] w5 (wk1 (fun v8 w7 => wle w5 w7 → (kx_inb v8 (w_n w7 12 0 27) = true ∧ zw E (L - 22) kt_M403 [.ref (w_adr E.2.1 12 0), .int (w_i w7 12 0 163), .int 1] (ws_i w7 12 0 164 (w_a w7 12 0 27 (v8).toNatClampNeg)) (wk1 (fun v10 w9 => wle (ws_i w7 12 0 164 (w_a w7 12 0 27 (v8).toNatClampNeg)) w9 → zw E (L - 31) kt_M522 [.ref (w_adr E.2.1 12 0), .int v10, .int (w_i w 12 0 161)] w9 (wk1 (fun v12 w11 => wle w9 w11 → zw E (L - 20) kt_M529 [.ref (w_adr E.2.1 12 0)] w11 (wk0 (fun w13 => wle w11 w13 → zw E (L - 21) kt_M460 [.ref (w_adr E.2.1 12 0), .int (w_i w 12 0 161)] w13 (wk0 (fun w15 => wle w13 w15 → (kx_inb (w_i w 12 0 161) (w_n w15 12 0 147) = true ∧ zw E (L - 21) kt_M511 [.ref (w_adr E.2.1 12 0)] (ws_a (ws_i w15 12 0 164 (w_i w5 12 0 164)) 12 0 147 (w_i w 12 0 161).toNatClampNeg 0) (wk0 (fun w17 => wle (ws_a (ws_i w15 12 0 164 (w_i w5 12 0 164)) 12 0 147 (w_i w 12 0 161).toNatClampNeg 0) w17 → (if v12 = 0 then zb_X13_meetReader_p164 E L Q w17 else zb_X13_meetReader_p164 E L Q (ws_i w17 12 0 177 v2))) (fun e w => Q (.inr e) w)))) (fun e w => Q (.inr e) w))) (fun e w => Q (.inr e) w))) (fun e w => Q (.inr e) w))) (fun e w => Q (.inr e) w)))) (fun e w => Q (.inr e) w))) (fun e w => Q (.inr e) w))) (fun e w => Q (.inr e) w)) else zL_X13_meetReader_p19 E L Q x1 0 w1)) (fun e w => Q (.inr e) w))
theorem zt_X13_meetReader_p0 {E : zE} {L : Nat} {Q : kx_Rs → wS → Prop} {x1 : Int32} {w : wS} (hL : 31 ≤ L) (h : zb_X13_meetReader_p0 E L Q x1 w) : kzE E L kt_M468 0 [(0, .ref (w_adr E.2.1 12 0)), (1, .int x1)] [] w Q := by
  unfold zb_X13_meetReader_p0 at h
  refine kz_aload_n (M := kt_M468) kX13_meetReader_c0.1 rfl ?_
  refine kz_gfi (M := kt_M468) (c := 12) (o := 0) kX13_meetReader_c0.2.1 wf_X13_1168 (.inl rfl) ?_
  refine kz_sti_n (M := kt_M468) [(0, .ref (w_adr E.2.1 12 0)), (1, .int x1)] kX13_meetReader_c0.2.2.1 (Nat.le_of_ble_eq_true rfl) ⟨⟨rfl, rfl, .inl rfl⟩, ⟨⟨rfl, rfl, .inr rfl⟩, trivial⟩⟩ rfl ?_
  refine kz_aload_n (M := kt_M468) kX13_meetReader_c0.2.2.2.1 rfl ?_
  refine kz_ic (M := kt_M468) 2 kX13_meetReader_c0.2.2.2.2.1 rfl ?_
  refine kz_iload_n (M := kt_M468) kX13_meetReader_c0.2.2.2.2.2.1 rfl ?_
  refine kz_cv1 (M := kt_M468) (c := 12) (o := 0) (As := [.int 2, .int x1]) (rest := []) kX13_meetReader_c0.2.2.2.2.2.2.1 wl_X13_1416 wMv_597 rfl (.inl rfl) rfl (Nat.le_trans (Nat.le_of_ble_eq_true rfl) hL) (Nat.le_of_ble_eq_true rfl) (Nat.le_of_ble_eq_true rfl) h (fun v2 w1 hle h => ?_) (fun _ _ _ h => kzx_no rfl h)
  have h := h hle
  refine kz_sti_n (M := kt_M468) [(0, .ref (w_adr E.2.1 12 0)), (1, .int x1), (2, .int (w_i w 12 0 161))] kX13_meetReader_c0.2.2.2.2.2.2.2.1 (Nat.le_of_ble_eq_true rfl) ⟨⟨rfl, rfl, .inl rfl⟩, ⟨⟨rfl, rfl, .inl rfl⟩, ⟨⟨rfl, rfl, .inr rfl⟩, trivial⟩⟩⟩ rfl ?_
  refine kz_iload_n (M := kt_M468) kX13_meetReader_c1.1 rfl ?_
  refine kz_if_ge (M := kt_M468) kX13_meetReader_c1.2.1 (t := 79) rfl h (fun h => ?_) (fun h => ?_)
  · skip
    refine kz_aload_n (M := kt_M468) kX13_meetReader_c5.2.2.2.2.1 rfl ?_
    refine kz_cv0 (M := kt_M468) (c := 12) (o := 0) (As := []) (rest := []) kX13_meetReader_c5.2.2.2.2.2.1 wl_X13_1319 wMv_529 rfl (.inl rfl) rfl (Nat.le_trans (Nat.le_of_ble_eq_true rfl) hL) (Nat.le_of_ble_eq_true rfl) (Nat.le_of_ble_eq_true rfl) h (fun w3 hle h => ?_) (fun _ _ _ h => kzx_no rfl h)
    have h := h hle
    refine kz_aload_n (M := kt_M468) kX13_meetReader_c5.2.2.2.2.2.2.1 rfl ?_
    refine kz_iload_n (M := kt_M468) kX13_meetReader_c5.2.2.2.2.2.2.2.1 rfl ?_
    refine kz_cv0 (M := kt_M468) (c := 12) (o := 0) (As := [.int v2]) (rest := []) kX13_meetReader_c6.1 wl_X13_1331 wMv_460 rfl (.inl rfl) rfl (Nat.le_trans (Nat.le_of_ble_eq_true rfl) hL) (Nat.le_of_ble_eq_true rfl) (Nat.le_of_ble_eq_true rfl) h (fun w5 hle h => ?_) (fun _ _ _ h => kzx_no rfl h)
    have h := h hle
    refine kz_aload_n (M := kt_M468) kX13_meetReader_c6.2.1 rfl ?_
    refine kz_gfi (M := kt_M468) (c := 12) (o := 0) kX13_meetReader_c6.2.2.1 wf_X13_1302 (.inl rfl) ?_
    refine kz_sti (M := kt_M468) [(0, .ref (w_adr E.2.1 12 0)), (2, .int (w_i w 12 0 161)), (3, .int v2)] kX13_meetReader_c6.2.2.2.1 (Nat.le_of_ble_eq_true rfl) ⟨⟨rfl, rfl, .inl rfl⟩, ⟨⟨rfl, rfl, .inl rfl⟩, ⟨⟨rfl, rfl, .inr rfl⟩, trivial⟩⟩⟩ rfl ?_
    refine kz_aload_n (M := kt_M468) kX13_meetReader_c6.2.2.2.2.1 rfl ?_
    refine kz_aload_n (M := kt_M468) kX13_meetReader_c6.2.2.2.2.2.1 rfl ?_
    refine kz_gfc (M := kt_M468) (x := 4099) (c := 12) (o := 0) kX13_meetReader_c6.2.2.2.2.2.2.1 wf_X13_190 (.inl rfl) ?_
    refine kz_aload_n (M := kt_M468) kX13_meetReader_c6.2.2.2.2.2.2.2.1 rfl ?_
    refine kz_aload_n (M := kt_M468) kX13_meetReader_c7.1 rfl ?_
    refine kz_gfi (M := kt_M468) (c := 12) (o := 0) kX13_meetReader_c7.2.1 wf_X13_1165 (.inl rfl) ?_
    refine kz_ic (M := kt_M468) 1 kX13_meetReader_c7.2.2.1 rfl ?_
    refine kz_cv1 (M := kt_M468) (c := 12) (o := 0) (As := [.int (w_i w5 12 0 163), .int 1]) (rest := [.ref (E.2.1 4099), .ref (w_adr E.2.1 12 0)]) kX13_meetReader_c7.2.2.2.1 wl_X13_1155 wMv_403 rfl (.inl rfl) rfl (Nat.le_trans (Nat.le_of_ble_eq_true rfl) hL) (Nat.le_of_ble_eq_true rfl) (Nat.le_of_ble_eq_true rfl) h (fun v8 w7 hle h => ?_) (fun _ _ _ h => kzx_no rfl h)
    have h := h hle
    refine kz_iald (M := kt_M468) (c := 12) (o := 0) (k := 27) (a := (E.2.1 4099)) kX13_meetReader_c7.2.2.2.2.1 ow_12_0_27 oa_12_0_27 ot_0 h (fun h => ?_)
    refine kz_pfi (M := kt_M468) (c := 12) (o := 0) kX13_meetReader_c7.2.2.2.2.2.1 wq_X13_1302 (.inl rfl) ?_
    refine kz_aload_n (M := kt_M468) kX13_meetReader_c7.2.2.2.2.2.2.1 rfl ?_
    refine kz_aload_n (M := kt_M468) kX13_meetReader_c7.2.2.2.2.2.2.2.1 rfl ?_
    refine kz_aload_n (M := kt_M468) kX13_meetReader_c8.1 rfl ?_
    refine kz_gfiR (M := kt_M468) (c := 12) (o := 0) (w_i w7 12 0 163) kX13_meetReader_c8.2.1 wf_X13_1165 (.inl rfl) (rd_i_i rfl) ?_
    refine kz_ic (M := kt_M468) 1 kX13_meetReader_c8.2.2.1 rfl ?_
    refine kz_cv1 (M := kt_M468) (c := 12) (o := 0) (As := [.int (w_i w7 12 0 163), .int 1]) (rest := [.ref (w_adr E.2.1 12 0)]) kX13_meetReader_c8.2.2.2.1 wl_X13_1155 wMv_403 rfl (.inl rfl) rfl (Nat.le_trans (Nat.le_of_ble_eq_true rfl) hL) (Nat.le_of_ble_eq_true rfl) (Nat.le_of_ble_eq_true rfl) h (fun v10 w9 hle h => ?_) (fun _ _ _ h => kzx_no rfl h)
    have h := h hle
    refine kz_iload_n (M := kt_M468) kX13_meetReader_c8.2.2.2.2.1 rfl ?_
    refine kz_cv1 (M := kt_M468) (c := 12) (o := 0) (As := [.int v10, .int (w_i w 12 0 161)]) (rest := []) kX13_meetReader_c8.2.2.2.2.2.1 wl_X13_1422 wMv_522 rfl (.inl rfl) rfl (Nat.le_trans (Nat.le_of_ble_eq_true rfl) hL) (Nat.le_of_ble_eq_true rfl) (Nat.le_of_ble_eq_true rfl) h (fun v12 w11 hle h => ?_) (fun _ _ _ h => kzx_no rfl h)
    have h := h hle
    refine kz_sti (M := kt_M468) [(0, .ref (w_adr E.2.1 12 0)), (2, .int (w_i w 12 0 161)), (3, .int v2), (4, .int (w_i w5 12 0 164))] kX13_meetReader_c8.2.2.2.2.2.2.1 (Nat.le_of_ble_eq_true rfl) ⟨⟨rfl, rfl, .inl rfl⟩, ⟨⟨rfl, rfl, .inl rfl⟩, ⟨⟨rfl, rfl, .inl rfl⟩, ⟨⟨rfl, rfl, .inr rfl⟩, trivial⟩⟩⟩⟩ rfl ?_
    refine kz_aload_n (M := kt_M468) kX13_meetReader_c8.2.2.2.2.2.2.2.1 rfl ?_
    refine kz_cv0 (M := kt_M468) (c := 12) (o := 0) (As := []) (rest := []) kX13_meetReader_c9.1 wl_X13_1319 wMv_529 rfl (.inl rfl) rfl (Nat.le_trans (Nat.le_of_ble_eq_true rfl) hL) (Nat.le_of_ble_eq_true rfl) (Nat.le_of_ble_eq_true rfl) h (fun w13 hle h => ?_) (fun _ _ _ h => kzx_no rfl h)
    have h := h hle
    refine kz_aload_n (M := kt_M468) kX13_meetReader_c9.2.1 rfl ?_
    refine kz_iload_n (M := kt_M468) kX13_meetReader_c9.2.2.1 rfl ?_
    refine kz_cv0 (M := kt_M468) (c := 12) (o := 0) (As := [.int (w_i w 12 0 161)]) (rest := []) kX13_meetReader_c9.2.2.2.1 wl_X13_1331 wMv_460 rfl (.inl rfl) rfl (Nat.le_trans (Nat.le_of_ble_eq_true rfl) hL) (Nat.le_of_ble_eq_true rfl) (Nat.le_of_ble_eq_true rfl) h (fun w15 hle h => ?_) (fun _ _ _ h => kzx_no rfl h)
    have h := h hle
    refine kz_aload_n (M := kt_M468) kX13_meetReader_c9.2.2.2.2.1 rfl ?_
    refine kz_iload (M := kt_M468) kX13_meetReader_c9.2.2.2.2.2.1 rfl ?_
    refine kz_pfi (M := kt_M468) (c := 12) (o := 0) kX13_meetReader_c9.2.2.2.2.2.2.1 wq_X13_1302 (.inl rfl) ?_
    refine kz_aload_n (M := kt_M468) kX13_meetReader_c9.2.2.2.2.2.2.2.1 rfl ?_
    refine kz_gfc (M := kt_M468) (x := 4219) (c := 12) (o := 0) kX13_meetReader_c10.1 wf_X13_394 (.inl rfl) ?_
    refine kz_iload_n (M := kt_M468) kX13_meetReader_c10.2.1 rfl ?_
    refine kz_ic (M := kt_M468) 0 kX13_meetReader_c10.2.2.1 rfl ?_
    refine kz_iastR (M := kt_M468) (n := w_n w15 12 0 147) (c := 12) (o := 0) (k := 147) (a := (E.2.1 4219)) kX13_meetReader_c10.2.2.2.1 ow_12_0_147 oa_12_0_147 ot_0 rd_n_i h (fun h => ?_)
    refine kz_aload_n (M := kt_M468) kX13_meetReader_c10.2.2.2.2.1 rfl ?_
    refine kz_cv0 (M := kt_M468) (c := 12) (o := 0) (As := []) (rest := []) kX13_meetReader_c10.2.2.2.2.2.1 wl_X13_1290 wMv_511 rfl (.inl rfl) rfl (Nat.le_trans (Nat.le_of_ble_eq_true rfl) hL) (Nat.le_of_ble_eq_true rfl) (Nat.le_of_ble_eq_true rfl) h (fun w17 hle h => ?_) (fun _ _ _ h => kzx_no rfl h)
    have h := h hle
    refine kz_iload (M := kt_M468) kX13_meetReader_c10.2.2.2.2.2.2.1 rfl ?_
    refine kz_if_eq (M := kt_M468) kX13_meetReader_c10.2.2.2.2.2.2.2.1 (t := 164) rfl h (fun h => ?_) (fun h => ?_)
    · skip
      exact kz_weak [(0, .ref (w_adr E.2.1 12 0))] ⟨rfl, trivial⟩ rfl (zt_X13_meetReader_p164 hL  h)
    · skip
      refine kz_aload_n (M := kt_M468) kX13_meetReader_c11.1 rfl ?_
      refine kz_iload_n (M := kt_M468) kX13_meetReader_c11.2.1 rfl ?_
      refine kz_pfi (M := kt_M468) (c := 12) (o := 0) kX13_meetReader_c11.2.2.1 wq_X13_1425 (.inl rfl) ?_
      exact kz_weak [(0, .ref (w_adr E.2.1 12 0))] ⟨rfl, trivial⟩ rfl (zt_X13_meetReader_p164 hL  h)
  · skip
    refine kz_ic (M := kt_M468) 0 kX13_meetReader_c1.2.2.1 rfl ?_
    refine kz_sti (M := kt_M468) [(0, .ref (w_adr E.2.1 12 0)), (1, .int x1)] kX13_meetReader_c1.2.2.2.1 (Nat.le_of_ble_eq_true rfl) ⟨⟨rfl, rfl, .inl rfl⟩, ⟨⟨rfl, rfl, .inl rfl⟩, trivial⟩⟩ rfl ?_
    exact kz_weak [(0, .ref (w_adr E.2.1 12 0)), (1, .int x1), (4, .int 0)] ⟨rfl, ⟨rfl, ⟨rfl, trivial⟩⟩⟩ rfl h
def zL_X13_waits_p2 (E : zE) (L : Nat) (Q : kx_Rs → wS → Prop) (x1 : Int32) (x2 : Int32) (x3 : Int32) (w : wS) : Prop := kzE E L kt_M597 2 [(0, .ref (w_adr E.2.1 12 0)), (1, .int x1), (2, .int x2), (3, .int x3)] [] w Q
def zb_X13_waits_p47 (E : zE) (L : Nat) (Q : kx_Rs → wS → Prop) (x1 : Int32) (x2 : Int32) (x3 : Int32) (w : wS) : Prop := zL_X13_waits_p2 E L Q x1 x2 (x3 + 1) w
theorem zt_X13_waits_p47 {E : zE} {L : Nat} {Q : kx_Rs → wS → Prop} {x1 : Int32} {x2 : Int32} {x3 : Int32} {w : wS} (hL : 19 ≤ L) (h : zb_X13_waits_p47 E L Q x1 x2 x3 w) : kzE E L kt_M597 47 [(0, .ref (w_adr E.2.1 12 0)), (1, .int x1), (2, .int x2), (3, .int x3)] [] w Q := by
  unfold zb_X13_waits_p47 at h
  refine kz_inc (M := kt_M597) [(0, .ref (w_adr E.2.1 12 0)), (1, .int x1), (2, .int x2)] kX13_waits_c3.2.2.2.2.2.1 rfl (Nat.le_of_ble_eq_true rfl) ⟨⟨rfl, rfl, .inl rfl⟩, ⟨⟨rfl, rfl, .inl rfl⟩, ⟨⟨rfl, rfl, .inr rfl⟩, trivial⟩⟩⟩ rfl ?_
  refine kz_goto (M := kt_M597) kX13_waits_c3.2.2.2.2.2.2.1 (t := 2) rfl ?_
  exact kz_weak [(0, .ref (w_adr E.2.1 12 0)), (1, .int x1), (2, .int x2), (3, .int (x3 + 1))] ⟨rfl, ⟨rfl, ⟨rfl, ⟨rfl, trivial⟩⟩⟩⟩ rfl h
def zb_X13_waits_p2 (E : zE) (L : Nat) (Q : kx_Rs → wS → Prop) (x1 : Int32) (x2 : Int32) (x3 : Int32) (w : wS) : Prop := (if w_i w 12 0 143 ≤ x3 then Q (.inl (some (.int (-1)))) w else (kx_inb x3 (w_n w 12 0 144) = true ∧ (kx_inb (w_a w 12 0 144 (x3).toNatClampNeg) (w_n w 12 0 147) = true ∧ (if ¬ w_a w 12 0 147 (w_a w 12 0 144 (x3).toNatClampNeg).toNatClampNeg = x1 then zb_X13_waits_p47 E L Q x1 x2 x3 w else (kx_inb x3 (w_n w 12 0 144) = true ∧ (kx_inb (w_a w 12 0 144 (x3).toNatClampNeg) (w_n w 12 0 155) = true ∧ (if ¬ w_a w 12 0 155 (w_a w 12 0 144 (x3).toNatClampNeg).toNatClampNeg = x2 then zb_X13_waits_p47 E L Q x1 x2 x3 w else (kx_inb x3 (w_n w 12 0 144) = true ∧ Q (.inl (some (.int (w_a w 12 0 144 (x3).toNatClampNeg)))) w))))))))
theorem zt_X13_waits_p2 {E : zE} {L : Nat} {Q : kx_Rs → wS → Prop} {x1 : Int32} {x2 : Int32} {x3 : Int32} {w : wS} (hL : 19 ≤ L) (h : zb_X13_waits_p2 E L Q x1 x2 x3 w) : kzE E L kt_M597 2 [(0, .ref (w_adr E.2.1 12 0)), (1, .int x1), (2, .int x2), (3, .int x3)] [] w Q := by
  unfold zb_X13_waits_p2 at h
  refine kz_iload_n (M := kt_M597) kX13_waits_c0.2.2.1 rfl ?_
  refine kz_aload_n (M := kt_M597) kX13_waits_c0.2.2.2.1 rfl ?_
  refine kz_gfi (M := kt_M597) (c := 12) (o := 0) kX13_waits_c0.2.2.2.2.1 wf_X13_1186 (.inl rfl) ?_
  refine kz_icmp_ge (M := kt_M597) kX13_waits_c0.2.2.2.2.2.1 (t := 53) rfl h (fun h => ?_) (fun h => ?_)
  · skip
    refine kz_ic (M := kt_M597) (-1) kX13_waits_c3.2.2.2.2.2.2.2.1 rfl ?_
    exact kz_iret (M := kt_M597) kX13_waits_c4.1 rfl rfl h
  · skip
    refine kz_aload_n (M := kt_M597) kX13_waits_c0.2.2.2.2.2.2.1 rfl ?_
    refine kz_gfc (M := kt_M597) (x := 4219) (c := 12) (o := 0) kX13_waits_c0.2.2.2.2.2.2.2.1 wf_X13_394 (.inl rfl) ?_
    refine kz_aload_n (M := kt_M597) kX13_waits_c1.1 rfl ?_
    refine kz_gfc (M := kt_M597) (x := 4216) (c := 12) (o := 0) kX13_waits_c1.2.1 wf_X13_385 (.inl rfl) ?_
    refine kz_iload_n (M := kt_M597) kX13_waits_c1.2.2.1 rfl ?_
    refine kz_iald (M := kt_M597) (c := 12) (o := 0) (k := 144) (a := (E.2.1 4216)) kX13_waits_c1.2.2.2.1 ow_12_0_144 oa_12_0_144 ot_0 h (fun h => ?_)
    refine kz_iald (M := kt_M597) (c := 12) (o := 0) (k := 147) (a := (E.2.1 4219)) kX13_waits_c1.2.2.2.2.1 ow_12_0_147 oa_12_0_147 ot_0 h (fun h => ?_)
    refine kz_iload_n (M := kt_M597) kX13_waits_c1.2.2.2.2.2.1 rfl ?_
    refine kz_icmp_ne (M := kt_M597) kX13_waits_c1.2.2.2.2.2.2.1 (t := 47) rfl h (fun h => ?_) (fun h => ?_)
    · skip
      exact kz_weak [(0, .ref (w_adr E.2.1 12 0)), (1, .int x1), (2, .int x2), (3, .int x3)] ⟨rfl, ⟨rfl, ⟨rfl, ⟨rfl, trivial⟩⟩⟩⟩ rfl (zt_X13_waits_p47 hL  h)
    · skip
      refine kz_aload_n (M := kt_M597) kX13_waits_c1.2.2.2.2.2.2.2.1 rfl ?_
      refine kz_gfc (M := kt_M597) (x := 4227) (c := 12) (o := 0) kX13_waits_c2.1 wf_X13_418 (.inl rfl) ?_
      refine kz_aload_n (M := kt_M597) kX13_waits_c2.2.1 rfl ?_
      refine kz_gfc (M := kt_M597) (x := 4216) (c := 12) (o := 0) kX13_waits_c2.2.2.1 wf_X13_385 (.inl rfl) ?_
      refine kz_iload_n (M := kt_M597) kX13_waits_c2.2.2.2.1 rfl ?_
      refine kz_iald (M := kt_M597) (c := 12) (o := 0) (k := 144) (a := (E.2.1 4216)) kX13_waits_c2.2.2.2.2.1 ow_12_0_144 oa_12_0_144 ot_0 h (fun h => ?_)
      refine kz_iald (M := kt_M597) (c := 12) (o := 0) (k := 155) (a := (E.2.1 4227)) kX13_waits_c2.2.2.2.2.2.1 ow_12_0_155 oa_12_0_155 ot_0 h (fun h => ?_)
      refine kz_iload_n (M := kt_M597) kX13_waits_c2.2.2.2.2.2.2.1 rfl ?_
      refine kz_icmp_ne (M := kt_M597) kX13_waits_c2.2.2.2.2.2.2.2.1 (t := 47) rfl h (fun h => ?_) (fun h => ?_)
      · skip
        exact kz_weak [(0, .ref (w_adr E.2.1 12 0)), (1, .int x1), (2, .int x2), (3, .int x3)] ⟨rfl, ⟨rfl, ⟨rfl, ⟨rfl, trivial⟩⟩⟩⟩ rfl (zt_X13_waits_p47 hL  h)
      · skip
        refine kz_aload_n (M := kt_M597) kX13_waits_c3.1 rfl ?_
        refine kz_gfc (M := kt_M597) (x := 4216) (c := 12) (o := 0) kX13_waits_c3.2.1 wf_X13_385 (.inl rfl) ?_
        refine kz_iload_n (M := kt_M597) kX13_waits_c3.2.2.1 rfl ?_
        refine kz_iald (M := kt_M597) (c := 12) (o := 0) (k := 144) (a := (E.2.1 4216)) kX13_waits_c3.2.2.2.1 ow_12_0_144 oa_12_0_144 ot_0 h (fun h => ?_)
        exact kz_iret (M := kt_M597) kX13_waits_c3.2.2.2.2.1 rfl rfl h
def zb_X13_waits_p0 (E : zE) (L : Nat) (Q : kx_Rs → wS → Prop) (x1 : Int32) (x2 : Int32) (w : wS) : Prop := zL_X13_waits_p2 E L Q x1 x2 0 w
theorem zt_X13_waits_p0 {E : zE} {L : Nat} {Q : kx_Rs → wS → Prop} {x1 : Int32} {x2 : Int32} {w : wS} (hL : 19 ≤ L) (h : zb_X13_waits_p0 E L Q x1 x2 w) : kzE E L kt_M597 0 [(0, .ref (w_adr E.2.1 12 0)), (1, .int x1), (2, .int x2)] [] w Q := by
  unfold zb_X13_waits_p0 at h
  refine kz_ic (M := kt_M597) 0 kX13_waits_c0.1 rfl ?_
  refine kz_sti_n (M := kt_M597) [(0, .ref (w_adr E.2.1 12 0)), (1, .int x1), (2, .int x2)] kX13_waits_c0.2.1 (Nat.le_of_ble_eq_true rfl) ⟨⟨rfl, rfl, .inl rfl⟩, ⟨⟨rfl, rfl, .inl rfl⟩, ⟨⟨rfl, rfl, .inr rfl⟩, trivial⟩⟩⟩ rfl ?_
  exact kz_weak [(0, .ref (w_adr E.2.1 12 0)), (1, .int x1), (2, .int x2), (3, .int 0)] ⟨rfl, ⟨rfl, ⟨rfl, ⟨rfl, trivial⟩⟩⟩⟩ rfl h
def zL_X13_hasGuard_p7 (E : zE) (L : Nat) (Q : kx_Rs → wS → Prop) (x1 : Int32) (x2 : Int32) (x3 : Int32) (w : wS) : Prop := kzE E L kt_M425 7 [(0, .ref (w_adr E.2.1 12 0)), (1, .int x1), (2, .int x2), (3, .int x3)] [] w Q
def zb_X13_hasGuard_p48 (E : zE) (L : Nat) (Q : kx_Rs → wS → Prop) (x1 : Int32) (x2 : Int32) (x3 : Int32) (w : wS) : Prop := zL_X13_hasGuard_p7 E L Q x1 x2 (x3 + 4) w
theorem zt_X13_hasGuard_p48 {E : zE} {L : Nat} {Q : kx_Rs → wS → Prop} {x1 : Int32} {x2 : Int32} {x3 : Int32} {w : wS} (hL : 21 ≤ L) (h : zb_X13_hasGuard_p48 E L Q x1 x2 x3 w) : kzE E L kt_M425 48 [(0, .ref (w_adr E.2.1 12 0)), (1, .int x1), (2, .int x2), (3, .int x3)] [] w Q := by
  unfold zb_X13_hasGuard_p48 at h
  refine kz_inc (M := kt_M425) [(0, .ref (w_adr E.2.1 12 0)), (1, .int x1), (2, .int x2)] kX13_hasGuard_c4.1 rfl (Nat.le_of_ble_eq_true rfl) ⟨⟨rfl, rfl, .inl rfl⟩, ⟨⟨rfl, rfl, .inl rfl⟩, ⟨⟨rfl, rfl, .inr rfl⟩, trivial⟩⟩⟩ rfl ?_
  refine kz_goto (M := kt_M425) kX13_hasGuard_c4.2.1 (t := 7) rfl ?_
  exact kz_weak [(0, .ref (w_adr E.2.1 12 0)), (1, .int x1), (2, .int x2), (3, .int (x3 + 4))] ⟨rfl, ⟨rfl, ⟨rfl, ⟨rfl, trivial⟩⟩⟩⟩ rfl h
def zb_X13_hasGuard_p7 (E : zE) (L : Nat) (Q : kx_Rs → wS → Prop) (x1 : Int32) (x2 : Int32) (x3 : Int32) (w : wS) : Prop := (kx_inb x1 (w_n w 12 0 157) = true ∧ (kx_inb x1 (w_n w 12 0 158) = true ∧ (if ((w_a w 12 0 157 (x1).toNatClampNeg) + (w_a w 12 0 158 (x1).toNatClampNeg)) ≤ x3 then Q (.inl (some (.int 0))) w else zw E (L - 21) kt_M410 [.ref (w_adr E.2.1 12 0), .int (x3 + 2)] w (wk1 (fun v2 w1 => wle w w1 → (if ¬ v2 = 2 then zb_X13_hasGuard_p48 E L Q x1 x2 x3 w1 else zw E (L - 21) kt_M410 [.ref (w_adr E.2.1 12 0), .int (x3 + 3)] w1 (wk1 (fun v4 w3 => wle w1 w3 → (if ¬ v4 = x2 then zb_X13_hasGuard_p48 E L Q x1 x2 x3 w3 else Q (.inl (some (.int 1))) w3)) (fun e w => Q (.inr e) w)))) (fun e w => Q (.inr e) w)))))
theorem zt_X13_hasGuard_p7 {E : zE} {L : Nat} {Q : kx_Rs → wS → Prop} {x1 : Int32} {x2 : Int32} {x3 : Int32} {w : wS} (hL : 21 ≤ L) (h : zb_X13_hasGuard_p7 E L Q x1 x2 x3 w) : kzE E L kt_M425 7 [(0, .ref (w_adr E.2.1 12 0)), (1, .int x1), (2, .int x2), (3, .int x3)] [] w Q := by
  unfold zb_X13_hasGuard_p7 at h
  refine kz_iload_n (M := kt_M425) kX13_hasGuard_c0.2.2.2.2.2.1 rfl ?_
  refine kz_aload_n (M := kt_M425) kX13_hasGuard_c0.2.2.2.2.2.2.1 rfl ?_
  refine kz_gfc (M := kt_M425) (x := 4229) (c := 12) (o := 0) kX13_hasGuard_c0.2.2.2.2.2.2.2.1 wf_X13_424 (.inl rfl) ?_
  refine kz_iload_n (M := kt_M425) kX13_hasGuard_c1.1 rfl ?_
  refine kz_iald (M := kt_M425) (c := 12) (o := 0) (k := 157) (a := (E.2.1 4229)) kX13_hasGuard_c1.2.1 ow_12_0_157 oa_12_0_157 ot_0 h (fun h => ?_)
  refine kz_aload_n (M := kt_M425) kX13_hasGuard_c1.2.2.1 rfl ?_
  refine kz_gfc (M := kt_M425) (x := 4230) (c := 12) (o := 0) kX13_hasGuard_c1.2.2.2.1 wf_X13_427 (.inl rfl) ?_
  refine kz_iload_n (M := kt_M425) kX13_hasGuard_c1.2.2.2.2.1 rfl ?_
  refine kz_iald (M := kt_M425) (c := 12) (o := 0) (k := 158) (a := (E.2.1 4230)) kX13_hasGuard_c1.2.2.2.2.2.1 ow_12_0_158 oa_12_0_158 ot_0 h (fun h => ?_)
  refine kz_iadd (M := kt_M425) kX13_hasGuard_c1.2.2.2.2.2.2.1 ?_
  refine kz_icmp_ge (M := kt_M425) kX13_hasGuard_c1.2.2.2.2.2.2.2.1 (t := 54) rfl h (fun h => ?_) (fun h => ?_)
  · skip
    refine kz_ic (M := kt_M425) 0 kX13_hasGuard_c4.2.2.1 rfl ?_
    exact kz_iretz (M := kt_M425) kX13_hasGuard_c4.2.2.2.1 rfl (by decide) h
  · skip
    refine kz_aload_n (M := kt_M425) kX13_hasGuard_c2.1 rfl ?_
    refine kz_iload_n (M := kt_M425) kX13_hasGuard_c2.2.1 rfl ?_
    refine kz_ic (M := kt_M425) 2 kX13_hasGuard_c2.2.2.1 rfl ?_
    refine kz_iadd (M := kt_M425) kX13_hasGuard_c2.2.2.2.1 ?_
    refine kz_cv1 (M := kt_M425) (c := 12) (o := 0) (As := [.int (x3 + 2)]) (rest := []) kX13_hasGuard_c2.2.2.2.2.1 wl_X13_1177 wMv_410 rfl (.inl rfl) rfl (Nat.le_trans (Nat.le_of_ble_eq_true rfl) hL) (Nat.le_of_ble_eq_true rfl) (Nat.le_of_ble_eq_true rfl) h (fun v2 w1 hle h => ?_) (fun _ _ _ h => kzx_no rfl h)
    have h := h hle
    refine kz_ic (M := kt_M425) 2 kX13_hasGuard_c2.2.2.2.2.2.1 rfl ?_
    refine kz_icmp_ne (M := kt_M425) kX13_hasGuard_c2.2.2.2.2.2.2.1 (t := 48) rfl h (fun h => ?_) (fun h => ?_)
    · skip
      exact kz_weak [(0, .ref (w_adr E.2.1 12 0)), (1, .int x1), (2, .int x2), (3, .int x3)] ⟨rfl, ⟨rfl, ⟨rfl, ⟨rfl, trivial⟩⟩⟩⟩ rfl (zt_X13_hasGuard_p48 hL  h)
    · skip
      refine kz_aload_n (M := kt_M425) kX13_hasGuard_c2.2.2.2.2.2.2.2.1 rfl ?_
      refine kz_iload_n (M := kt_M425) kX13_hasGuard_c3.1 rfl ?_
      refine kz_ic (M := kt_M425) 3 kX13_hasGuard_c3.2.1 rfl ?_
      refine kz_iadd (M := kt_M425) kX13_hasGuard_c3.2.2.1 ?_
      refine kz_cv1 (M := kt_M425) (c := 12) (o := 0) (As := [.int (x3 + 3)]) (rest := []) kX13_hasGuard_c3.2.2.2.1 wl_X13_1177 wMv_410 rfl (.inl rfl) rfl (Nat.le_trans (Nat.le_of_ble_eq_true rfl) hL) (Nat.le_of_ble_eq_true rfl) (Nat.le_of_ble_eq_true rfl) h (fun v4 w3 hle h => ?_) (fun _ _ _ h => kzx_no rfl h)
      have h := h hle
      refine kz_iload_n (M := kt_M425) kX13_hasGuard_c3.2.2.2.2.1 rfl ?_
      refine kz_icmp_ne (M := kt_M425) kX13_hasGuard_c3.2.2.2.2.2.1 (t := 48) rfl h (fun h => ?_) (fun h => ?_)
      · skip
        exact kz_weak [(0, .ref (w_adr E.2.1 12 0)), (1, .int x1), (2, .int x2), (3, .int x3)] ⟨rfl, ⟨rfl, ⟨rfl, ⟨rfl, trivial⟩⟩⟩⟩ rfl (zt_X13_hasGuard_p48 hL  h)
      · skip
        refine kz_ic (M := kt_M425) 1 kX13_hasGuard_c3.2.2.2.2.2.2.1 rfl ?_
        exact kz_iretz (M := kt_M425) kX13_hasGuard_c3.2.2.2.2.2.2.2.1 rfl (by decide) h
def zb_X13_hasGuard_p0 (E : zE) (L : Nat) (Q : kx_Rs → wS → Prop) (x1 : Int32) (x2 : Int32) (w : wS) : Prop := (kx_inb x1 (w_n w 12 0 157) = true ∧ zL_X13_hasGuard_p7 E L Q x1 x2 (w_a w 12 0 157 (x1).toNatClampNeg) w)
theorem zt_X13_hasGuard_p0 {E : zE} {L : Nat} {Q : kx_Rs → wS → Prop} {x1 : Int32} {x2 : Int32} {w : wS} (hL : 21 ≤ L) (h : zb_X13_hasGuard_p0 E L Q x1 x2 w) : kzE E L kt_M425 0 [(0, .ref (w_adr E.2.1 12 0)), (1, .int x1), (2, .int x2)] [] w Q := by
  unfold zb_X13_hasGuard_p0 at h
  refine kz_aload_n (M := kt_M425) kX13_hasGuard_c0.1 rfl ?_
  refine kz_gfc (M := kt_M425) (x := 4229) (c := 12) (o := 0) kX13_hasGuard_c0.2.1 wf_X13_424 (.inl rfl) ?_
  refine kz_iload_n (M := kt_M425) kX13_hasGuard_c0.2.2.1 rfl ?_
  refine kz_iald (M := kt_M425) (c := 12) (o := 0) (k := 157) (a := (E.2.1 4229)) kX13_hasGuard_c0.2.2.2.1 ow_12_0_157 oa_12_0_157 ot_0 h (fun h => ?_)
  refine kz_sti_n (M := kt_M425) [(0, .ref (w_adr E.2.1 12 0)), (1, .int x1), (2, .int x2)] kX13_hasGuard_c0.2.2.2.2.1 (Nat.le_of_ble_eq_true rfl) ⟨⟨rfl, rfl, .inl rfl⟩, ⟨⟨rfl, rfl, .inl rfl⟩, ⟨⟨rfl, rfl, .inr rfl⟩, trivial⟩⟩⟩ rfl ?_
  exact kz_weak [(0, .ref (w_adr E.2.1 12 0)), (1, .int x1), (2, .int x2), (3, .int (w_a w 12 0 157 (x1).toNatClampNeg))] ⟨rfl, ⟨rfl, ⟨rfl, ⟨rfl, trivial⟩⟩⟩⟩ rfl h
def zb_X13_record_p0 (E : zE) (L : Nat) (Q : kx_Rs → wS → Prop) (x1 : Int32) (x2 : Int32) (x3 : Int32) (w : wS) : Prop := (kx_inb x3 (w_n w 12 0 111) = true ∧ (kx_inb (7 * ((w_i w 12 0 130) - (w_i w 12 0 130) / 64 * 64)) (w_n w 12 0 142) = true ∧ (kx_inb x3 (w_n w 12 0 111) = true ∧ (kx_inb ((7 * ((w_i w 12 0 130) - (w_i w 12 0 130) / 64 * 64)) + 1) (w_n w 12 0 142) = true ∧ (kx_inb x1 (w_n w 12 0 146) = true ∧ (kx_inb ((7 * ((w_i w 12 0 130) - (w_i w 12 0 130) / 64 * 64)) + 2) (w_n w 12 0 142) = true ∧ (kx_inb x2 (w_n w 12 0 146) = true ∧ (kx_inb ((7 * ((w_i w 12 0 130) - (w_i w 12 0 130) / 64 * 64)) + 3) (w_n w 12 0 142) = true ∧ (kx_inb x1 (w_n w 12 0 158) = true ∧ (kx_inb ((7 * ((w_i w 12 0 130) - (w_i w 12 0 130) / 64 * 64)) + 4) (w_n w 12 0 142) = true ∧ (kx_inb x1 (w_n w 12 0 157) = true ∧ zw E (L - 21) kt_M410 [.ref (w_adr E.2.1 12 0), .int (w_a w 12 0 157 (x1).toNatClampNeg)] (ws_a (ws_a (ws_a (ws_a (ws_a w 12 0 142 ((7 * ((w_i w 12 0 130) - (w_i w 12 0 130) / 64 * 64))).toNatClampNeg ((w_a w 12 0 111 (x3).toNatClampNeg) / 1024)) 12 0 142 (((7 * ((w_i w 12 0 130) - (w_i w 12 0 130) / 64 * 64)) + 1)).toNatClampNeg ((w_a w 12 0 111 (x3).toNatClampNeg) - (w_a w 12 0 111 (x3).toNatClampNeg) / 1024 * 1024)) 12 0 142 (((7 * ((w_i w 12 0 130) - (w_i w 12 0 130) / 64 * 64)) + 2)).toNatClampNeg (w_a w 12 0 146 (x1).toNatClampNeg)) 12 0 142 (((7 * ((w_i w 12 0 130) - (w_i w 12 0 130) / 64 * 64)) + 3)).toNatClampNeg (w_a w 12 0 146 (x2).toNatClampNeg)) 12 0 142 (((7 * ((w_i w 12 0 130) - (w_i w 12 0 130) / 64 * 64)) + 4)).toNatClampNeg (w_a w 12 0 158 (x1).toNatClampNeg)) (wk1 (fun v2 w1 => wle (ws_a (ws_a (ws_a (ws_a (ws_a w 12 0 142 ((7 * ((w_i w 12 0 130) - (w_i w 12 0 130) / 64 * 64))).toNatClampNeg ((w_a w 12 0 111 (x3).toNatClampNeg) / 1024)) 12 0 142 (((7 * ((w_i w 12 0 130) - (w_i w 12 0 130) / 64 * 64)) + 1)).toNatClampNeg ((w_a w 12 0 111 (x3).toNatClampNeg) - (w_a w 12 0 111 (x3).toNatClampNeg) / 1024 * 1024)) 12 0 142 (((7 * ((w_i w 12 0 130) - (w_i w 12 0 130) / 64 * 64)) + 2)).toNatClampNeg (w_a w 12 0 146 (x1).toNatClampNeg)) 12 0 142 (((7 * ((w_i w 12 0 130) - (w_i w 12 0 130) / 64 * 64)) + 3)).toNatClampNeg (w_a w 12 0 146 (x2).toNatClampNeg)) 12 0 142 (((7 * ((w_i w 12 0 130) - (w_i w 12 0 130) / 64 * 64)) + 4)).toNatClampNeg (w_a w 12 0 158 (x1).toNatClampNeg)) w1 → (kx_inb ((7 * ((w_i w 12 0 130) - (w_i w 12 0 130) / 64 * 64)) + 5) (w_n w1 12 0 142) = true ∧ (kx_inb ((7 * ((w_i w 12 0 130) - (w_i w 12 0 130) / 64 * 64)) + 6) (w_n w1 12 0 142) = true ∧ Q (.inl none) (ws_i (ws_a (ws_a w1 12 0 142 (((7 * ((w_i w 12 0 130) - (w_i w 12 0 130) / 64 * 64)) + 5)).toNatClampNeg v2) 12 0 142 (((7 * ((w_i w 12 0 130) - (w_i w 12 0 130) / 64 * 64)) + 6)).toNatClampNeg (w_i w1 12 0 127)) 12 0 130 ((w_i w1 12 0 130) + 1))))) (fun e w => Q (.inr e) w)))))))))))))
theorem zt_X13_record_p0 {E : zE} {L : Nat} {Q : kx_Rs → wS → Prop} {x1 : Int32} {x2 : Int32} {x3 : Int32} {w : wS} (hL : 21 ≤ L) (h : zb_X13_record_p0 E L Q x1 x2 x3 w) : kzE E L kt_M523 0 [(0, .ref (w_adr E.2.1 12 0)), (1, .int x1), (2, .int x2), (3, .int x3)] [] w Q := by
  unfold zb_X13_record_p0 at h
  refine kz_bi (M := kt_M523) 7 kX13_record_c0.1 rfl ?_
  refine kz_aload_n (M := kt_M523) kX13_record_c0.2.1 rfl ?_
  refine kz_gfi (M := kt_M523) (c := 12) (o := 0) kX13_record_c0.2.2.1 wf_X13_1428 (.inl rfl) ?_
  refine kz_bi (M := kt_M523) 64 kX13_record_c0.2.2.2.1 rfl ?_
  refine kz_irem (M := kt_M523) kX13_record_c0.2.2.2.2.1 (by decide) ?_
  refine kz_imul (M := kt_M523) kX13_record_c0.2.2.2.2.2.1 ?_
  refine kz_sti (M := kt_M523) [(0, .ref (w_adr E.2.1 12 0)), (1, .int x1), (2, .int x2), (3, .int x3)] kX13_record_c0.2.2.2.2.2.2.1 (Nat.le_of_ble_eq_true rfl) ⟨⟨rfl, rfl, .inl rfl⟩, ⟨⟨rfl, rfl, .inl rfl⟩, ⟨⟨rfl, rfl, .inl rfl⟩, ⟨⟨rfl, rfl, .inr rfl⟩, trivial⟩⟩⟩⟩ rfl ?_
  refine kz_aload_n (M := kt_M523) kX13_record_c0.2.2.2.2.2.2.2.1 rfl ?_
  refine kz_gfc (M := kt_M523) (x := 4214) (c := 12) (o := 0) kX13_record_c1.1 wf_X13_382 (.inl rfl) ?_
  refine kz_iload (M := kt_M523) kX13_record_c1.2.1 rfl ?_
  refine kz_aload_n (M := kt_M523) kX13_record_c1.2.2.1 rfl ?_
  refine kz_gfa (M := kt_M523) (c := 12) (o := 0) kX13_record_c1.2.2.2.1 wf_X13_350 (.inl rfl) ?_
  refine kz_iload_n (M := kt_M523) kX13_record_c1.2.2.2.2.1 rfl ?_
  refine kz_iald (M := kt_M523) (c := 12) (o := 0) (k := 111) (a := (w_d w 12 0 111)) kX13_record_c1.2.2.2.2.2.1 ow_12_0_111 oa_12_0_111 ot_0 h (fun h => ?_)
  refine kz_si (M := kt_M523) 1024 kX13_record_c1.2.2.2.2.2.2.1 rfl ?_
  refine kz_idiv (M := kt_M523) kX13_record_c1.2.2.2.2.2.2.2.1 (by decide) ?_
  refine kz_iast (M := kt_M523) (c := 12) (o := 0) (k := 142) (a := (E.2.1 4214)) kX13_record_c2.1 ow_12_0_142 oa_12_0_142 ot_0 h (fun h => ?_)
  refine kz_aload_n (M := kt_M523) kX13_record_c2.2.1 rfl ?_
  refine kz_gfc (M := kt_M523) (x := 4214) (c := 12) (o := 0) kX13_record_c2.2.2.1 wf_X13_382 (.inl rfl) ?_
  refine kz_iload (M := kt_M523) kX13_record_c2.2.2.2.1 rfl ?_
  refine kz_ic (M := kt_M523) 1 kX13_record_c2.2.2.2.2.1 rfl ?_
  refine kz_iadd (M := kt_M523) kX13_record_c2.2.2.2.2.2.1 ?_
  refine kz_aload_n (M := kt_M523) kX13_record_c2.2.2.2.2.2.2.1 rfl ?_
  refine kz_gfa (M := kt_M523) (c := 12) (o := 0) kX13_record_c2.2.2.2.2.2.2.2.1 wf_X13_350 (.inl rfl) ?_
  refine kz_iload_n (M := kt_M523) kX13_record_c3.1 rfl ?_
  refine kz_ialdR (M := kt_M523) (n := w_n w 12 0 111) (c := 12) (o := 0) (k := 111) (a := (w_d (ws_a w 12 0 142 ((7 * ((w_i w 12 0 130) - (w_i w 12 0 130) / 64 * 64))).toNatClampNeg ((w_a w 12 0 111 (x3).toNatClampNeg) / 1024)) 12 0 111)) (w_a w 12 0 111 (x3).toNatClampNeg) kX13_record_c3.2.1 ow_12_0_111 oa_12_0_111 ot_0 rd_n_a (rd_a_a rfl) h (fun h => ?_)
  refine kz_si (M := kt_M523) 1024 kX13_record_c3.2.2.1 rfl ?_
  refine kz_irem (M := kt_M523) kX13_record_c3.2.2.2.1 (by decide) ?_
  refine kz_iastR (M := kt_M523) (n := w_n w 12 0 142) (c := 12) (o := 0) (k := 142) (a := (E.2.1 4214)) kX13_record_c3.2.2.2.2.1 ow_12_0_142 oa_12_0_142 ot_0 rd_n_a h (fun h => ?_)
  refine kz_aload_n (M := kt_M523) kX13_record_c3.2.2.2.2.2.1 rfl ?_
  refine kz_gfc (M := kt_M523) (x := 4214) (c := 12) (o := 0) kX13_record_c3.2.2.2.2.2.2.1 wf_X13_382 (.inl rfl) ?_
  refine kz_iload (M := kt_M523) kX13_record_c3.2.2.2.2.2.2.2.1 rfl ?_
  refine kz_ic (M := kt_M523) 2 kX13_record_c4.1 rfl ?_
  refine kz_iadd (M := kt_M523) kX13_record_c4.2.1 ?_
  refine kz_aload_n (M := kt_M523) kX13_record_c4.2.2.1 rfl ?_
  refine kz_gfc (M := kt_M523) (x := 4218) (c := 12) (o := 0) kX13_record_c4.2.2.2.1 wf_X13_391 (.inl rfl) ?_
  refine kz_iload_n (M := kt_M523) kX13_record_c4.2.2.2.2.1 rfl ?_
  refine kz_ialdR (M := kt_M523) (n := w_n w 12 0 146) (c := 12) (o := 0) (k := 146) (a := (E.2.1 4218)) (w_a w 12 0 146 (x1).toNatClampNeg) kX13_record_c4.2.2.2.2.2.1 ow_12_0_146 oa_12_0_146 ot_0 (rd_n_a.trans rd_n_a) ((rd_a_a rfl).trans (rd_a_a rfl)) h (fun h => ?_)
  refine kz_iastR (M := kt_M523) (n := w_n w 12 0 142) (c := 12) (o := 0) (k := 142) (a := (E.2.1 4214)) kX13_record_c4.2.2.2.2.2.2.1 ow_12_0_142 oa_12_0_142 ot_0 (rd_n_a.trans rd_n_a) h (fun h => ?_)
  refine kz_aload_n (M := kt_M523) kX13_record_c4.2.2.2.2.2.2.2.1 rfl ?_
  refine kz_gfc (M := kt_M523) (x := 4214) (c := 12) (o := 0) kX13_record_c5.1 wf_X13_382 (.inl rfl) ?_
  refine kz_iload (M := kt_M523) kX13_record_c5.2.1 rfl ?_
  refine kz_ic (M := kt_M523) 3 kX13_record_c5.2.2.1 rfl ?_
  refine kz_iadd (M := kt_M523) kX13_record_c5.2.2.2.1 ?_
  refine kz_aload_n (M := kt_M523) kX13_record_c5.2.2.2.2.1 rfl ?_
  refine kz_gfc (M := kt_M523) (x := 4218) (c := 12) (o := 0) kX13_record_c5.2.2.2.2.2.1 wf_X13_391 (.inl rfl) ?_
  refine kz_iload_n (M := kt_M523) kX13_record_c5.2.2.2.2.2.2.1 rfl ?_
  refine kz_ialdR (M := kt_M523) (n := w_n w 12 0 146) (c := 12) (o := 0) (k := 146) (a := (E.2.1 4218)) (w_a w 12 0 146 (x2).toNatClampNeg) kX13_record_c5.2.2.2.2.2.2.2.1 ow_12_0_146 oa_12_0_146 ot_0 (rd_n_a.trans (rd_n_a.trans rd_n_a)) ((rd_a_a rfl).trans ((rd_a_a rfl).trans (rd_a_a rfl))) h (fun h => ?_)
  refine kz_iastR (M := kt_M523) (n := w_n w 12 0 142) (c := 12) (o := 0) (k := 142) (a := (E.2.1 4214)) kX13_record_c6.1 ow_12_0_142 oa_12_0_142 ot_0 (rd_n_a.trans (rd_n_a.trans rd_n_a)) h (fun h => ?_)
  refine kz_aload_n (M := kt_M523) kX13_record_c6.2.1 rfl ?_
  refine kz_gfc (M := kt_M523) (x := 4214) (c := 12) (o := 0) kX13_record_c6.2.2.1 wf_X13_382 (.inl rfl) ?_
  refine kz_iload (M := kt_M523) kX13_record_c6.2.2.2.1 rfl ?_
  refine kz_ic (M := kt_M523) 4 kX13_record_c6.2.2.2.2.1 rfl ?_
  refine kz_iadd (M := kt_M523) kX13_record_c6.2.2.2.2.2.1 ?_
  refine kz_aload_n (M := kt_M523) kX13_record_c6.2.2.2.2.2.2.1 rfl ?_
  refine kz_gfc (M := kt_M523) (x := 4230) (c := 12) (o := 0) kX13_record_c6.2.2.2.2.2.2.2.1 wf_X13_427 (.inl rfl) ?_
  refine kz_iload_n (M := kt_M523) kX13_record_c7.1 rfl ?_
  refine kz_ialdR (M := kt_M523) (n := w_n w 12 0 158) (c := 12) (o := 0) (k := 158) (a := (E.2.1 4230)) (w_a w 12 0 158 (x1).toNatClampNeg) kX13_record_c7.2.1 ow_12_0_158 oa_12_0_158 ot_0 (rd_n_a.trans (rd_n_a.trans (rd_n_a.trans rd_n_a))) ((rd_a_a rfl).trans ((rd_a_a rfl).trans ((rd_a_a rfl).trans (rd_a_a rfl)))) h (fun h => ?_)
  refine kz_iastR (M := kt_M523) (n := w_n w 12 0 142) (c := 12) (o := 0) (k := 142) (a := (E.2.1 4214)) kX13_record_c7.2.2.1 ow_12_0_142 oa_12_0_142 ot_0 (rd_n_a.trans (rd_n_a.trans (rd_n_a.trans rd_n_a))) h (fun h => ?_)
  refine kz_aload_n (M := kt_M523) kX13_record_c7.2.2.2.1 rfl ?_
  refine kz_gfc (M := kt_M523) (x := 4214) (c := 12) (o := 0) kX13_record_c7.2.2.2.2.1 wf_X13_382 (.inl rfl) ?_
  refine kz_iload (M := kt_M523) kX13_record_c7.2.2.2.2.2.1 rfl ?_
  refine kz_ic (M := kt_M523) 5 kX13_record_c7.2.2.2.2.2.2.1 rfl ?_
  refine kz_iadd (M := kt_M523) kX13_record_c7.2.2.2.2.2.2.2.1 ?_
  refine kz_aload_n (M := kt_M523) kX13_record_c8.1 rfl ?_
  refine kz_aload_n (M := kt_M523) kX13_record_c8.2.1 rfl ?_
  refine kz_gfc (M := kt_M523) (x := 4229) (c := 12) (o := 0) kX13_record_c8.2.2.1 wf_X13_424 (.inl rfl) ?_
  refine kz_iload_n (M := kt_M523) kX13_record_c8.2.2.2.1 rfl ?_
  refine kz_ialdR (M := kt_M523) (n := w_n w 12 0 157) (c := 12) (o := 0) (k := 157) (a := (E.2.1 4229)) (w_a w 12 0 157 (x1).toNatClampNeg) kX13_record_c8.2.2.2.2.1 ow_12_0_157 oa_12_0_157 ot_0 (rd_n_a.trans (rd_n_a.trans (rd_n_a.trans (rd_n_a.trans rd_n_a)))) ((rd_a_a rfl).trans ((rd_a_a rfl).trans ((rd_a_a rfl).trans ((rd_a_a rfl).trans (rd_a_a rfl))))) h (fun h => ?_)
  refine kz_cv1 (M := kt_M523) (c := 12) (o := 0) (As := [.int (w_a w 12 0 157 (x1).toNatClampNeg)]) (rest := [.int ((7 * ((w_i w 12 0 130) - (w_i w 12 0 130) / 64 * 64)) + 5), .ref (E.2.1 4214)]) kX13_record_c8.2.2.2.2.2.1 wl_X13_1177 wMv_410 rfl (.inl rfl) rfl (Nat.le_trans (Nat.le_of_ble_eq_true rfl) hL) (Nat.le_of_ble_eq_true rfl) (Nat.le_of_ble_eq_true rfl) h (fun v2 w1 hle h => ?_) (fun _ _ _ h => kzx_no rfl h)
  have h := h hle
  refine kz_iast (M := kt_M523) (c := 12) (o := 0) (k := 142) (a := (E.2.1 4214)) kX13_record_c8.2.2.2.2.2.2.1 ow_12_0_142 oa_12_0_142 ot_0 h (fun h => ?_)
  refine kz_aload_n (M := kt_M523) kX13_record_c8.2.2.2.2.2.2.2.1 rfl ?_
  refine kz_gfc (M := kt_M523) (x := 4214) (c := 12) (o := 0) kX13_record_c9.1 wf_X13_382 (.inl rfl) ?_
  refine kz_iload (M := kt_M523) kX13_record_c9.2.1 rfl ?_
  refine kz_bi (M := kt_M523) 6 kX13_record_c9.2.2.1 rfl ?_
  refine kz_iadd (M := kt_M523) kX13_record_c9.2.2.2.1 ?_
  refine kz_aload_n (M := kt_M523) kX13_record_c9.2.2.2.2.1 rfl ?_
  refine kz_gfiR (M := kt_M523) (c := 12) (o := 0) (w_i w1 12 0 127) kX13_record_c9.2.2.2.2.2.1 wf_X13_1431 (.inl rfl) rd_i_a ?_
  refine kz_iastR (M := kt_M523) (n := w_n w1 12 0 142) (c := 12) (o := 0) (k := 142) (a := (E.2.1 4214)) kX13_record_c9.2.2.2.2.2.2.1 ow_12_0_142 oa_12_0_142 ot_0 rd_n_a h (fun h => ?_)
  refine kz_aload_n (M := kt_M523) kX13_record_c9.2.2.2.2.2.2.2.1 rfl ?_
  refine kz_dup (M := kt_M523) kX13_record_c10.1 rfl ?_
  refine kz_gfiR (M := kt_M523) (c := 12) (o := 0) (w_i w1 12 0 130) kX13_record_c10.2.1 wf_X13_1428 (.inl rfl) (rd_i_a.trans rd_i_a) ?_
  refine kz_ic (M := kt_M523) 1 kX13_record_c10.2.2.1 rfl ?_
  refine kz_iadd (M := kt_M523) kX13_record_c10.2.2.2.1 ?_
  refine kz_pfi (M := kt_M523) (c := 12) (o := 0) kX13_record_c10.2.2.2.2.1 wq_X13_1428 (.inl rfl) ?_
  exact kz_ret (M := kt_M523) kX13_record_c10.2.2.2.2.2.1 rfl h
def zL_X13_variant_p170 (E : zE) (L : Nat) (Q : kx_Rs → wS → Prop) (x3 : Int32) (x4 : Int32) (x6 : Int32) (x7 : Int32) (x8 : Int32) (w : wS) : Prop := kzE E L kt_M596 170 [(0, .ref (w_adr E.2.1 12 0)), (3, .int x3), (4, .int x4), (6, .int x6), (7, .int x7), (8, .int x8)] [] w Q
def zL_X13_variant_p158 (E : zE) (L : Nat) (Q : kx_Rs → wS → Prop) (x3 : Int32) (x4 : Int32) (x6 : Int32) (x7 : Int32) (w : wS) : Prop := kzE E L kt_M596 158 [(0, .ref (w_adr E.2.1 12 0)), (3, .int x3), (4, .int x4), (6, .int x6), (7, .int x7)] [] w Q
def zL_X13_variant_p82 (E : zE) (L : Nat) (Q : kx_Rs → wS → Prop) (x2 : Int32) (x3 : Int32) (x4 : Int32) (x5 : Int32) (x6 : Int32) (w : wS) : Prop := kzE E L kt_M596 82 [(0, .ref (w_adr E.2.1 12 0)), (2, .int x2), (3, .int x3), (4, .int x4), (5, .int x5), (6, .int x6)] [] w Q
def zL_X13_variant_p7 (E : zE) (L : Nat) (Q : kx_Rs → wS → Prop) (x2 : Int32) (x3 : Int32) (w : wS) : Prop := kzE E L kt_M596 7 [(0, .ref (w_adr E.2.1 12 0)), (2, .int x2), (3, .int x3)] [] w Q
def zb_X13_variant_p170 (E : zE) (L : Nat) (Q : kx_Rs → wS → Prop) (x3 : Int32) (x4 : Int32) (x6 : Int32) (x7 : Int32) (x8 : Int32) (w : wS) : Prop := (kx_inb x7 (w_n w 12 0 176) = true ∧ (if w_a w 12 0 176 (x7).toNatClampNeg ≤ x8 then (kx_inb x7 (w_n w 12 0 176) = true ∧ zL_X13_variant_p158 E L Q x3 x4 (x6 + (w_a w 12 0 176 (x7).toNatClampNeg)) (x7 + 1) w) else (kx_inb x7 (w_n w 12 0 175) = true ∧ zw E (L - 21) kt_M410 [.ref (w_adr E.2.1 12 0), .int (x6 + x8)] w (wk1 (fun v2 w1 => wle w w1 → zw E (L - 22) kt_M369 [.ref (w_adr E.2.1 12 0), .int ((w_a w 12 0 175 (x7).toNatClampNeg) + x8), .int v2] w1 (wk0 (fun w3 => wle w1 w3 → zL_X13_variant_p170 E L Q x3 x4 x6 x7 (x8 + 1) w3) (fun e w => Q (.inr e) w))) (fun e w => Q (.inr e) w)))))
theorem zt_X13_variant_p170 {E : zE} {L : Nat} {Q : kx_Rs → wS → Prop} {x3 : Int32} {x4 : Int32} {x6 : Int32} {x7 : Int32} {x8 : Int32} {w : wS} (hL : 25 ≤ L) (h : zb_X13_variant_p170 E L Q x3 x4 x6 x7 x8 w) : kzE E L kt_M596 170 [(0, .ref (w_adr E.2.1 12 0)), (3, .int x3), (4, .int x4), (6, .int x6), (7, .int x7), (8, .int x8)] [] w Q := by
  unfold zb_X13_variant_p170 at h
  refine kz_iload (M := kt_M596) kX13_variant_c11.2.2.2.2.2.2.2.1 rfl ?_
  refine kz_aload_n (M := kt_M596) kX13_variant_c12.1 rfl ?_
  refine kz_gfa (M := kt_M596) (c := 12) (o := 0) kX13_variant_c12.2.1 wf_X13_448 (.inl rfl) ?_
  refine kz_iload (M := kt_M596) kX13_variant_c12.2.2.1 rfl ?_
  refine kz_iald (M := kt_M596) (c := 12) (o := 0) (k := 176) (a := (w_d w 12 0 176)) kX13_variant_c12.2.2.2.1 ow_12_0_176 oa_12_0_176 ot_0 h (fun h => ?_)
  refine kz_icmp_ge (M := kt_M596) kX13_variant_c12.2.2.2.2.1 (t := 211) rfl h (fun h => ?_) (fun h => ?_)
  · skip
    refine kz_iload (M := kt_M596) kX13_variant_c14.2.2.2.2.1 rfl ?_
    refine kz_aload_n (M := kt_M596) kX13_variant_c14.2.2.2.2.2.1 rfl ?_
    refine kz_gfa (M := kt_M596) (c := 12) (o := 0) kX13_variant_c14.2.2.2.2.2.2.1 wf_X13_448 (.inl rfl) ?_
    refine kz_iload (M := kt_M596) kX13_variant_c14.2.2.2.2.2.2.2.1 rfl ?_
    refine kz_iald (M := kt_M596) (c := 12) (o := 0) (k := 176) (a := (w_d w 12 0 176)) kX13_variant_c15.1 ow_12_0_176 oa_12_0_176 ot_0 h (fun h => ?_)
    refine kz_iadd (M := kt_M596) kX13_variant_c15.2.1 ?_
    refine kz_sti (M := kt_M596) [(0, .ref (w_adr E.2.1 12 0)), (3, .int x3), (4, .int x4), (7, .int x7)] kX13_variant_c15.2.2.1 (Nat.le_of_ble_eq_true rfl) ⟨⟨rfl, rfl, .inl rfl⟩, ⟨⟨rfl, rfl, .inl rfl⟩, ⟨⟨rfl, rfl, .inl rfl⟩, ⟨⟨rfl, rfl, .inl rfl⟩, trivial⟩⟩⟩⟩ rfl ?_
    refine kz_inc (M := kt_M596) [(0, .ref (w_adr E.2.1 12 0)), (3, .int x3), (4, .int x4), (6, .int (x6 + (w_a w 12 0 176 (x7).toNatClampNeg)))] kX13_variant_c15.2.2.2.1 rfl (Nat.le_of_ble_eq_true rfl) ⟨⟨rfl, rfl, .inl rfl⟩, ⟨⟨rfl, rfl, .inl rfl⟩, ⟨⟨rfl, rfl, .inl rfl⟩, ⟨⟨rfl, rfl, .inr rfl⟩, trivial⟩⟩⟩⟩ rfl ?_
    refine kz_goto (M := kt_M596) kX13_variant_c15.2.2.2.2.1 (t := 158) rfl ?_
    exact kz_weak [(0, .ref (w_adr E.2.1 12 0)), (3, .int x3), (4, .int x4), (6, .int (x6 + (w_a w 12 0 176 (x7).toNatClampNeg))), (7, .int (x7 + 1))] ⟨rfl, ⟨rfl, ⟨rfl, ⟨rfl, ⟨rfl, trivial⟩⟩⟩⟩⟩ rfl h
  · skip
    refine kz_aload_n (M := kt_M596) kX13_variant_c12.2.2.2.2.2.1 rfl ?_
    refine kz_aload_n (M := kt_M596) kX13_variant_c12.2.2.2.2.2.2.1 rfl ?_
    refine kz_gfa (M := kt_M596) (c := 12) (o := 0) kX13_variant_c12.2.2.2.2.2.2.2.1 wf_X13_445 (.inl rfl) ?_
    refine kz_iload (M := kt_M596) kX13_variant_c13.1 rfl ?_
    refine kz_iald (M := kt_M596) (c := 12) (o := 0) (k := 175) (a := (w_d w 12 0 175)) kX13_variant_c13.2.1 ow_12_0_175 oa_12_0_175 ot_0 h (fun h => ?_)
    refine kz_iload (M := kt_M596) kX13_variant_c13.2.2.1 rfl ?_
    refine kz_iadd (M := kt_M596) kX13_variant_c13.2.2.2.1 ?_
    refine kz_aload_n (M := kt_M596) kX13_variant_c13.2.2.2.2.1 rfl ?_
    refine kz_iload (M := kt_M596) kX13_variant_c13.2.2.2.2.2.1 rfl ?_
    refine kz_iload (M := kt_M596) kX13_variant_c13.2.2.2.2.2.2.1 rfl ?_
    refine kz_iadd (M := kt_M596) kX13_variant_c13.2.2.2.2.2.2.2.1 ?_
    refine kz_cv1 (M := kt_M596) (c := 12) (o := 0) (As := [.int (x6 + x8)]) (rest := [.int ((w_a w 12 0 175 (x7).toNatClampNeg) + x8), .ref (w_adr E.2.1 12 0)]) kX13_variant_c14.1 wl_X13_1177 wMv_410 rfl (.inl rfl) rfl (Nat.le_trans (Nat.le_of_ble_eq_true rfl) hL) (Nat.le_of_ble_eq_true rfl) (Nat.le_of_ble_eq_true rfl) h (fun v2 w1 hle h => ?_) (fun _ _ _ h => kzx_no rfl h)
    have h := h hle
    refine kz_cv0 (M := kt_M596) (c := 12) (o := 0) (As := [.int ((w_a w 12 0 175 (x7).toNatClampNeg) + x8), .int v2]) (rest := []) kX13_variant_c14.2.1 wl_X13_1367 wMv_369 rfl (.inl rfl) rfl (Nat.le_trans (Nat.le_of_ble_eq_true rfl) hL) (Nat.le_of_ble_eq_true rfl) (Nat.le_of_ble_eq_true rfl) h (fun w3 hle h => ?_) (fun _ _ _ h => kzx_no rfl h)
    have h := h hle
    refine kz_inc (M := kt_M596) [(0, .ref (w_adr E.2.1 12 0)), (3, .int x3), (4, .int x4), (6, .int x6), (7, .int x7)] kX13_variant_c14.2.2.1 rfl (Nat.le_of_ble_eq_true rfl) ⟨⟨rfl, rfl, .inl rfl⟩, ⟨⟨rfl, rfl, .inl rfl⟩, ⟨⟨rfl, rfl, .inl rfl⟩, ⟨⟨rfl, rfl, .inl rfl⟩, ⟨⟨rfl, rfl, .inr rfl⟩, trivial⟩⟩⟩⟩⟩ rfl ?_
    refine kz_goto (M := kt_M596) kX13_variant_c14.2.2.2.1 (t := 170) rfl ?_
    exact kz_weak [(0, .ref (w_adr E.2.1 12 0)), (3, .int x3), (4, .int x4), (6, .int x6), (7, .int x7), (8, .int (x8 + 1))] ⟨rfl, ⟨rfl, ⟨rfl, ⟨rfl, ⟨rfl, ⟨rfl, trivial⟩⟩⟩⟩⟩⟩ rfl h
def zb_X13_variant_p158 (E : zE) (L : Nat) (Q : kx_Rs → wS → Prop) (x3 : Int32) (x4 : Int32) (x6 : Int32) (x7 : Int32) (w : wS) : Prop := (if w_i w 12 0 174 ≤ x7 then zw E (L - 21) kt_M511 [.ref (w_adr E.2.1 12 0)] (ws_i w 12 0 174 x4) (wk0 (fun w1 => wle (ws_i w 12 0 174 x4) w1 → (kx_inb x3 (w_n w1 12 0 30) = true ∧ zw E (L - 25) kt_M518 [.ref (w_adr E.2.1 12 0), .int 0, .int (w_a w1 12 0 30 (x3).toNatClampNeg), .int 0, .int 0] w1 (wk0 (fun w3 => wle w1 w3 → Q (.inl none) w3) (fun e w => Q (.inr e) w)))) (fun e w => Q (.inr e) w)) else zL_X13_variant_p170 E L Q x3 x4 x6 x7 0 w)
theorem zt_X13_variant_p158 {E : zE} {L : Nat} {Q : kx_Rs → wS → Prop} {x3 : Int32} {x4 : Int32} {x6 : Int32} {x7 : Int32} {w : wS} (hL : 25 ≤ L) (h : zb_X13_variant_p158 E L Q x3 x4 x6 x7 w) : kzE E L kt_M596 158 [(0, .ref (w_adr E.2.1 12 0)), (3, .int x3), (4, .int x4), (6, .int x6), (7, .int x7)] [] w Q := by
  unfold zb_X13_variant_p158 at h
  refine kz_iload (M := kt_M596) kX13_variant_c11.2.1 rfl ?_
  refine kz_aload_n (M := kt_M596) kX13_variant_c11.2.2.1 rfl ?_
  refine kz_gfi (M := kt_M596) (c := 12) (o := 0) kX13_variant_c11.2.2.2.1 wf_X13_1325 (.inl rfl) ?_
  refine kz_icmp_ge (M := kt_M596) kX13_variant_c11.2.2.2.2.1 (t := 229) rfl h (fun h => ?_) (fun h => ?_)
  · skip
    refine kz_aload_n (M := kt_M596) kX13_variant_c15.2.2.2.2.2.1 rfl ?_
    refine kz_iload (M := kt_M596) kX13_variant_c15.2.2.2.2.2.2.1 rfl ?_
    refine kz_pfi (M := kt_M596) (c := 12) (o := 0) kX13_variant_c15.2.2.2.2.2.2.2.1 wq_X13_1325 (.inl rfl) ?_
    refine kz_aload_n (M := kt_M596) kX13_variant_c16.1 rfl ?_
    refine kz_cv0 (M := kt_M596) (c := 12) (o := 0) (As := []) (rest := []) kX13_variant_c16.2.1 wl_X13_1290 wMv_511 rfl (.inl rfl) rfl (Nat.le_trans (Nat.le_of_ble_eq_true rfl) hL) (Nat.le_of_ble_eq_true rfl) (Nat.le_of_ble_eq_true rfl) h (fun w1 hle h => ?_) (fun _ _ _ h => kzx_no rfl h)
    have h := h hle
    refine kz_aload_n (M := kt_M596) kX13_variant_c16.2.2.1 rfl ?_
    refine kz_ic (M := kt_M596) 0 kX13_variant_c16.2.2.2.1 rfl ?_
    refine kz_aload_n (M := kt_M596) kX13_variant_c16.2.2.2.2.1 rfl ?_
    refine kz_gfc (M := kt_M596) (x := 4102) (c := 12) (o := 0) kX13_variant_c16.2.2.2.2.2.1 wf_X13_199 (.inl rfl) ?_
    refine kz_iload_n (M := kt_M596) kX13_variant_c16.2.2.2.2.2.2.1 rfl ?_
    refine kz_iald (M := kt_M596) (c := 12) (o := 0) (k := 30) (a := (E.2.1 4102)) kX13_variant_c16.2.2.2.2.2.2.2.1 ow_12_0_30 oa_12_0_30 ot_0 h (fun h => ?_)
    refine kz_ic (M := kt_M596) 0 kX13_variant_c17.1 rfl ?_
    refine kz_ic (M := kt_M596) 0 kX13_variant_c17.2.1 rfl ?_
    refine kz_cv0 (M := kt_M596) (c := 12) (o := 0) (As := [.int 0, .int (w_a w1 12 0 30 (x3).toNatClampNeg), .int 0, .int 0]) (rest := []) kX13_variant_c17.2.2.1 wl_X13_1278 wMv_518 rfl (.inl rfl) rfl (Nat.le_trans (Nat.le_of_ble_eq_true rfl) hL) (Nat.le_of_ble_eq_true rfl) (Nat.le_of_ble_eq_true rfl) h (fun w3 hle h => ?_) (fun _ _ _ h => kzx_no rfl h)
    have h := h hle
    exact kz_ret (M := kt_M596) kX13_variant_c17.2.2.2.1 rfl h
  · skip
    refine kz_ic (M := kt_M596) 0 kX13_variant_c11.2.2.2.2.2.1 rfl ?_
    refine kz_sti (M := kt_M596) [(0, .ref (w_adr E.2.1 12 0)), (3, .int x3), (4, .int x4), (6, .int x6), (7, .int x7)] kX13_variant_c11.2.2.2.2.2.2.1 (Nat.le_of_ble_eq_true rfl) ⟨⟨rfl, rfl, .inl rfl⟩, ⟨⟨rfl, rfl, .inl rfl⟩, ⟨⟨rfl, rfl, .inl rfl⟩, ⟨⟨rfl, rfl, .inl rfl⟩, ⟨⟨rfl, rfl, .inr rfl⟩, trivial⟩⟩⟩⟩⟩ rfl ?_
    exact kz_weak [(0, .ref (w_adr E.2.1 12 0)), (3, .int x3), (4, .int x4), (6, .int x6), (7, .int x7), (8, .int 0)] ⟨rfl, ⟨rfl, ⟨rfl, ⟨rfl, ⟨rfl, ⟨rfl, trivial⟩⟩⟩⟩⟩⟩ rfl h
def zb_X13_variant_p82 (E : zE) (L : Nat) (Q : kx_Rs → wS → Prop) (x2 : Int32) (x3 : Int32) (x4 : Int32) (x5 : Int32) (x6 : Int32) (w : wS) : Prop := (if x6 < 0 then zL_X13_variant_p158 E L Q x3 x4 (x2 + 1) x4 w else zw E (L - 22) kt_M557 [.ref (w_adr E.2.1 12 0), .int x6] w (wk0 (fun w1 => wle w w1 → (kx_inb ((w_i w1 12 0 174) - 1) (w_n w1 12 0 176) = true ∧ zw E (L - 21) kt_M505 [.ref (w_adr E.2.1 12 0), .int x5] w1 (wk1 (fun v4 w3 => wle w1 w3 → (if w_a w1 12 0 176 (((w_i w1 12 0 174) - 1)).toNatClampNeg = v4 then zw E (L - 21) kt_M413 [.int x5, .ref (E.2.1 4104)] w3 (wk1 (fun v6 w5 => wle w3 w5 → (kx_inb x6 (w_n w5 12 0 32) = true ∧ zL_X13_variant_p82 E L Q x2 x3 x4 v6 (w_a w5 12 0 32 (x6).toNatClampNeg) w5)) (fun e w => Q (.inr e) w)) else zw E (L - 21) kt_M408 [.ref (w_adr E.2.1 12 0), .int 9] (ws_i w3 12 0 174 x4) (wkr (fun v8 w7 => wle (ws_i w3 12 0 174 x4) w7 → (v8 = some (w_adr E.2.1 13 0) ∧ Q (.inr "MeetingHouseModel$Halt") w7)) (fun e w => Q (.inr e) w)))) (fun e w => Q (.inr e) w)))) (fun e w => Q (.inr e) w)))
theorem zt_X13_variant_p82 {E : zE} {L : Nat} {Q : kx_Rs → wS → Prop} {x2 : Int32} {x3 : Int32} {x4 : Int32} {x5 : Int32} {x6 : Int32} {w : wS} (hL : 25 ≤ L) (h : zb_X13_variant_p82 E L Q x2 x3 x4 x5 x6 w) : kzE E L kt_M596 82 [(0, .ref (w_adr E.2.1 12 0)), (2, .int x2), (3, .int x3), (4, .int x4), (5, .int x5), (6, .int x6)] [] w Q := by
  unfold zb_X13_variant_p82 at h
  refine kz_iload (M := kt_M596) kX13_variant_c6.2.1 rfl ?_
  refine kz_if_lt (M := kt_M596) kX13_variant_c6.2.2.1 (t := 149) rfl h (fun h => ?_) (fun h => ?_)
  · skip
    refine kz_iload_n (M := kt_M596) kX13_variant_c10.2.2.2.1 rfl ?_
    refine kz_ic (M := kt_M596) 1 kX13_variant_c10.2.2.2.2.1 rfl ?_
    refine kz_iadd (M := kt_M596) kX13_variant_c10.2.2.2.2.2.1 ?_
    refine kz_sti (M := kt_M596) [(0, .ref (w_adr E.2.1 12 0)), (3, .int x3), (4, .int x4)] kX13_variant_c10.2.2.2.2.2.2.1 (Nat.le_of_ble_eq_true rfl) ⟨⟨rfl, rfl, .inl rfl⟩, ⟨⟨rfl, rfl, .inl rfl⟩, ⟨⟨rfl, rfl, .inl rfl⟩, trivial⟩⟩⟩ rfl ?_
    refine kz_iload (M := kt_M596) kX13_variant_c10.2.2.2.2.2.2.2.1 rfl ?_
    refine kz_sti (M := kt_M596) [(0, .ref (w_adr E.2.1 12 0)), (3, .int x3), (4, .int x4), (6, .int (x2 + 1))] kX13_variant_c11.1 (Nat.le_of_ble_eq_true rfl) ⟨⟨rfl, rfl, .inl rfl⟩, ⟨⟨rfl, rfl, .inl rfl⟩, ⟨⟨rfl, rfl, .inl rfl⟩, ⟨⟨rfl, rfl, .inr rfl⟩, trivial⟩⟩⟩⟩ rfl ?_
    exact kz_weak [(0, .ref (w_adr E.2.1 12 0)), (3, .int x3), (4, .int x4), (6, .int (x2 + 1)), (7, .int x4)] ⟨rfl, ⟨rfl, ⟨rfl, ⟨rfl, ⟨rfl, trivial⟩⟩⟩⟩⟩ rfl h
  · skip
    refine kz_aload_n (M := kt_M596) kX13_variant_c6.2.2.2.1 rfl ?_
    refine kz_iload (M := kt_M596) kX13_variant_c6.2.2.2.2.1 rfl ?_
    refine kz_cv0 (M := kt_M596) (c := 12) (o := 0) (As := [.int x6]) (rest := []) kX13_variant_c6.2.2.2.2.2.1 wl_X13_1364 wMv_557 rfl (.inl rfl) rfl (Nat.le_trans (Nat.le_of_ble_eq_true rfl) hL) (Nat.le_of_ble_eq_true rfl) (Nat.le_of_ble_eq_true rfl) h (fun w1 hle h => ?_) (fun _ _ _ h => kzx_no rfl h)
    have h := h hle
    refine kz_aload_n (M := kt_M596) kX13_variant_c6.2.2.2.2.2.2.1 rfl ?_
    refine kz_gfa (M := kt_M596) (c := 12) (o := 0) kX13_variant_c6.2.2.2.2.2.2.2.1 wf_X13_448 (.inl rfl) ?_
    refine kz_aload_n (M := kt_M596) kX13_variant_c7.1 rfl ?_
    refine kz_gfi (M := kt_M596) (c := 12) (o := 0) kX13_variant_c7.2.1 wf_X13_1325 (.inl rfl) ?_
    refine kz_ic (M := kt_M596) 1 kX13_variant_c7.2.2.1 rfl ?_
    refine kz_isub (M := kt_M596) kX13_variant_c7.2.2.2.1 ?_
    refine kz_iald (M := kt_M596) (c := 12) (o := 0) (k := 176) (a := (w_d w1 12 0 176)) kX13_variant_c7.2.2.2.2.1 ow_12_0_176 oa_12_0_176 ot_0 h (fun h => ?_)
    refine kz_aload_n (M := kt_M596) kX13_variant_c7.2.2.2.2.2.1 rfl ?_
    refine kz_iload (M := kt_M596) kX13_variant_c7.2.2.2.2.2.2.1 rfl ?_
    refine kz_cv1 (M := kt_M596) (c := 12) (o := 0) (As := [.int x5]) (rest := [.int (w_a w1 12 0 176 (((w_i w1 12 0 174) - 1)).toNatClampNeg)]) kX13_variant_c7.2.2.2.2.2.2.2.1 wl_X13_1394 wMv_505 rfl (.inl rfl) rfl (Nat.le_trans (Nat.le_of_ble_eq_true rfl) hL) (Nat.le_of_ble_eq_true rfl) (Nat.le_of_ble_eq_true rfl) h (fun v4 w3 hle h => ?_) (fun _ _ _ h => kzx_no rfl h)
    have h := h hle
    refine kz_icmp_eq (M := kt_M596) kX13_variant_c8.1 (t := 126) rfl h (fun h => ?_) (fun h => ?_)
    · skip
      refine kz_iload (M := kt_M596) kX13_variant_c9.1 rfl ?_
      refine kz_aload_n (M := kt_M596) kX13_variant_c9.2.1 rfl ?_
      refine kz_gfc (M := kt_M596) (x := 4104) (c := 12) (o := 0) kX13_variant_c9.2.2.1 wf_X13_205 (.inl rfl) ?_
      refine kz_cs1 (M := kt_M596) (As := [.int x5, .ref (E.2.1 4104)]) (rest := []) kX13_variant_c9.2.2.2.1 wl_X13_1397 wMs_413 rfl (Nat.le_trans (Nat.le_of_ble_eq_true rfl) hL) (Nat.le_of_ble_eq_true rfl) (Nat.le_of_ble_eq_true rfl) h (fun v6 w5 hle h => ?_) (fun _ _ _ h => kzx_no rfl h)
      have h := h hle
      refine kz_sti (M := kt_M596) [(0, .ref (w_adr E.2.1 12 0)), (2, .int x2), (3, .int x3), (4, .int x4), (6, .int x6)] kX13_variant_c9.2.2.2.2.1 (Nat.le_of_ble_eq_true rfl) ⟨⟨rfl, rfl, .inl rfl⟩, ⟨⟨rfl, rfl, .inl rfl⟩, ⟨⟨rfl, rfl, .inl rfl⟩, ⟨⟨rfl, rfl, .inr rfl⟩, ⟨⟨rfl, rfl, .inl rfl⟩, trivial⟩⟩⟩⟩⟩ rfl ?_
      refine kz_aload_n (M := kt_M596) kX13_variant_c9.2.2.2.2.2.1 rfl ?_
      refine kz_gfc (M := kt_M596) (x := 4104) (c := 12) (o := 0) kX13_variant_c9.2.2.2.2.2.2.1 wf_X13_205 (.inl rfl) ?_
      refine kz_iload (M := kt_M596) kX13_variant_c9.2.2.2.2.2.2.2.1 rfl ?_
      refine kz_iald (M := kt_M596) (c := 12) (o := 0) (k := 32) (a := (E.2.1 4104)) kX13_variant_c10.1 ow_12_0_32 oa_12_0_32 ot_0 h (fun h => ?_)
      refine kz_sti (M := kt_M596) [(0, .ref (w_adr E.2.1 12 0)), (2, .int x2), (3, .int x3), (4, .int x4), (5, .int v6)] kX13_variant_c10.2.1 (Nat.le_of_ble_eq_true rfl) ⟨⟨rfl, rfl, .inl rfl⟩, ⟨⟨rfl, rfl, .inl rfl⟩, ⟨⟨rfl, rfl, .inl rfl⟩, ⟨⟨rfl, rfl, .inl rfl⟩, ⟨⟨rfl, rfl, .inr rfl⟩, trivial⟩⟩⟩⟩⟩ rfl ?_
      refine kz_goto (M := kt_M596) kX13_variant_c10.2.2.1 (t := 82) rfl ?_
      exact kz_weak [(0, .ref (w_adr E.2.1 12 0)), (2, .int x2), (3, .int x3), (4, .int x4), (5, .int v6), (6, .int (w_a w5 12 0 32 (x6).toNatClampNeg))] ⟨rfl, ⟨rfl, ⟨rfl, ⟨rfl, ⟨rfl, ⟨rfl, trivial⟩⟩⟩⟩⟩⟩ rfl h
    · skip
      refine kz_aload_n (M := kt_M596) kX13_variant_c8.2.1 rfl ?_
      refine kz_iload (M := kt_M596) kX13_variant_c8.2.2.1 rfl ?_
      refine kz_pfi (M := kt_M596) (c := 12) (o := 0) kX13_variant_c8.2.2.2.1 wq_X13_1325 (.inl rfl) ?_
      refine kz_aload_n (M := kt_M596) kX13_variant_c8.2.2.2.2.1 rfl ?_
      refine kz_bi (M := kt_M596) 9 kX13_variant_c8.2.2.2.2.2.1 rfl ?_
      refine kz_cvr (M := kt_M596) (c := 12) (o := 0) (As := [.int 9]) (rest := []) kX13_variant_c8.2.2.2.2.2.2.1 wl_X13_839 wMv_408 rfl (.inl rfl) rfl (Nat.le_trans (Nat.le_of_ble_eq_true rfl) hL) (Nat.le_of_ble_eq_true rfl) (Nat.le_of_ble_eq_true rfl) h (fun v8 w7 hle h => ?_) (fun _ _ _ h => kzx_no rfl h)
      have h := h hle
      exact kz_throw (M := kt_M596) (c := 13) (o := 0) kX13_variant_c8.2.2.2.2.2.2.2.1 rfl (.inl rfl) h (fun h => kzx_no rfl h)
def zb_X13_variant_p40 (E : zE) (L : Nat) (Q : kx_Rs → wS → Prop) (x2 : Int32) (x3 : Int32) (w : wS) : Prop := (if 0 ≤ x3 then (kx_inb x3 (w_n w 12 0 31) = true ∧ (kx_inb (w_a w 12 0 31 (x3).toNatClampNeg) (w_n w 12 0 49) = true ∧ (kx_inb (w_a w 12 0 49 (w_a w 12 0 31 (x3).toNatClampNeg).toNatClampNeg) (w_n w 12 0 29) = true ∧ (kx_inb x3 (w_n w 12 0 29) = true ∧ zL_X13_variant_p82 E L Q x2 x3 (w_i w 12 0 174) (w_a w 12 0 29 (w_a w 12 0 49 (w_a w 12 0 31 (x3).toNatClampNeg).toNatClampNeg).toNatClampNeg) (w_a w 12 0 29 (x3).toNatClampNeg) w)))) else zw E (L - 21) kt_M408 [.ref (w_adr E.2.1 12 0), .int 5] w (wkr (fun v2 w1 => wle w w1 → (v2 = some (w_adr E.2.1 13 0) ∧ Q (.inr "MeetingHouseModel$Halt") w1)) (fun e w => Q (.inr e) w)))
theorem zt_X13_variant_p40 {E : zE} {L : Nat} {Q : kx_Rs → wS → Prop} {x2 : Int32} {x3 : Int32} {w : wS} (hL : 25 ≤ L) (h : zb_X13_variant_p40 E L Q x2 x3 w) : kzE E L kt_M596 40 [(0, .ref (w_adr E.2.1 12 0)), (2, .int x2), (3, .int x3)] [] w Q := by
  unfold zb_X13_variant_p40 at h
  refine kz_iload_n (M := kt_M596) kX13_variant_c3.1 rfl ?_
  refine kz_if_ge (M := kt_M596) kX13_variant_c3.2.1 (t := 50) rfl h (fun h => ?_) (fun h => ?_)
  · skip
    refine kz_aload_n (M := kt_M596) kX13_variant_c3.2.2.2.2.2.2.1 rfl ?_
    refine kz_gfi (M := kt_M596) (c := 12) (o := 0) kX13_variant_c3.2.2.2.2.2.2.2.1 wf_X13_1325 (.inl rfl) ?_
    refine kz_sti (M := kt_M596) [(0, .ref (w_adr E.2.1 12 0)), (2, .int x2), (3, .int x3)] kX13_variant_c4.1 (Nat.le_of_ble_eq_true rfl) ⟨⟨rfl, rfl, .inl rfl⟩, ⟨⟨rfl, rfl, .inl rfl⟩, ⟨⟨rfl, rfl, .inr rfl⟩, trivial⟩⟩⟩ rfl ?_
    refine kz_aload_n (M := kt_M596) kX13_variant_c4.2.1 rfl ?_
    refine kz_gfc (M := kt_M596) (x := 4101) (c := 12) (o := 0) kX13_variant_c4.2.2.1 wf_X13_196 (.inl rfl) ?_
    refine kz_aload_n (M := kt_M596) kX13_variant_c4.2.2.2.1 rfl ?_
    refine kz_gfc (M := kt_M596) (x := 4121) (c := 12) (o := 0) kX13_variant_c4.2.2.2.2.1 wf_X13_232 (.inl rfl) ?_
    refine kz_aload_n (M := kt_M596) kX13_variant_c4.2.2.2.2.2.1 rfl ?_
    refine kz_gfc (M := kt_M596) (x := 4103) (c := 12) (o := 0) kX13_variant_c4.2.2.2.2.2.2.1 wf_X13_202 (.inl rfl) ?_
    refine kz_iload_n (M := kt_M596) kX13_variant_c4.2.2.2.2.2.2.2.1 rfl ?_
    refine kz_iald (M := kt_M596) (c := 12) (o := 0) (k := 31) (a := (E.2.1 4103)) kX13_variant_c5.1 ow_12_0_31 oa_12_0_31 ot_0 h (fun h => ?_)
    refine kz_iald (M := kt_M596) (c := 12) (o := 0) (k := 49) (a := (E.2.1 4121)) kX13_variant_c5.2.1 ow_12_0_49 oa_12_0_49 ot_0 h (fun h => ?_)
    refine kz_iald (M := kt_M596) (c := 12) (o := 0) (k := 29) (a := (E.2.1 4101)) kX13_variant_c5.2.2.1 ow_12_0_29 oa_12_0_29 ot_0 h (fun h => ?_)
    refine kz_sti (M := kt_M596) [(0, .ref (w_adr E.2.1 12 0)), (2, .int x2), (3, .int x3), (4, .int (w_i w 12 0 174))] kX13_variant_c5.2.2.2.1 (Nat.le_of_ble_eq_true rfl) ⟨⟨rfl, rfl, .inl rfl⟩, ⟨⟨rfl, rfl, .inl rfl⟩, ⟨⟨rfl, rfl, .inl rfl⟩, ⟨⟨rfl, rfl, .inr rfl⟩, trivial⟩⟩⟩⟩ rfl ?_
    refine kz_aload_n (M := kt_M596) kX13_variant_c5.2.2.2.2.1 rfl ?_
    refine kz_gfc (M := kt_M596) (x := 4101) (c := 12) (o := 0) kX13_variant_c5.2.2.2.2.2.1 wf_X13_196 (.inl rfl) ?_
    refine kz_iload_n (M := kt_M596) kX13_variant_c5.2.2.2.2.2.2.1 rfl ?_
    refine kz_iald (M := kt_M596) (c := 12) (o := 0) (k := 29) (a := (E.2.1 4101)) kX13_variant_c5.2.2.2.2.2.2.2.1 ow_12_0_29 oa_12_0_29 ot_0 h (fun h => ?_)
    refine kz_sti (M := kt_M596) [(0, .ref (w_adr E.2.1 12 0)), (2, .int x2), (3, .int x3), (4, .int (w_i w 12 0 174)), (5, .int (w_a w 12 0 29 (w_a w 12 0 49 (w_a w 12 0 31 (x3).toNatClampNeg).toNatClampNeg).toNatClampNeg))] kX13_variant_c6.1 (Nat.le_of_ble_eq_true rfl) ⟨⟨rfl, rfl, .inl rfl⟩, ⟨⟨rfl, rfl, .inl rfl⟩, ⟨⟨rfl, rfl, .inl rfl⟩, ⟨⟨rfl, rfl, .inl rfl⟩, ⟨⟨rfl, rfl, .inr rfl⟩, trivial⟩⟩⟩⟩⟩ rfl ?_
    exact kz_weak [(0, .ref (w_adr E.2.1 12 0)), (2, .int x2), (3, .int x3), (4, .int (w_i w 12 0 174)), (5, .int (w_a w 12 0 29 (w_a w 12 0 49 (w_a w 12 0 31 (x3).toNatClampNeg).toNatClampNeg).toNatClampNeg)), (6, .int (w_a w 12 0 29 (x3).toNatClampNeg))] ⟨rfl, ⟨rfl, ⟨rfl, ⟨rfl, ⟨rfl, ⟨rfl, trivial⟩⟩⟩⟩⟩⟩ rfl h
  · skip
    refine kz_aload_n (M := kt_M596) kX13_variant_c3.2.2.1 rfl ?_
    refine kz_ic (M := kt_M596) 5 kX13_variant_c3.2.2.2.1 rfl ?_
    refine kz_cvr (M := kt_M596) (c := 12) (o := 0) (As := [.int 5]) (rest := []) kX13_variant_c3.2.2.2.2.1 wl_X13_839 wMv_408 rfl (.inl rfl) rfl (Nat.le_trans (Nat.le_of_ble_eq_true rfl) hL) (Nat.le_of_ble_eq_true rfl) (Nat.le_of_ble_eq_true rfl) h (fun v2 w1 hle h => ?_) (fun _ _ _ h => kzx_no rfl h)
    have h := h hle
    exact kz_throw (M := kt_M596) (c := 13) (o := 0) kX13_variant_c3.2.2.2.2.2.1 rfl (.inl rfl) h (fun h => kzx_no rfl h)
def zb_X13_variant_p7 (E : zE) (L : Nat) (Q : kx_Rs → wS → Prop) (x2 : Int32) (x3 : Int32) (w : wS) : Prop := (if x3 < 0 then zb_X13_variant_p40 E L Q x2 x3 w else (kx_inb x3 (w_n w 12 0 31) = true ∧ (kx_inb (w_a w 12 0 31 (x3).toNatClampNeg) (w_n w 12 0 48) = true ∧ zw E (L - 21) kt_M410 [.ref (w_adr E.2.1 12 0), .int x2] w (wk1 (fun v2 w1 => wle w w1 → (if w_a w 12 0 48 (w_a w 12 0 31 (x3).toNatClampNeg).toNatClampNeg = v2 then zb_X13_variant_p40 E L Q x2 x3 w1 else (kx_inb x3 (w_n w1 12 0 32) = true ∧ zL_X13_variant_p7 E L Q x2 (w_a w1 12 0 32 (x3).toNatClampNeg) w1))) (fun e w => Q (.inr e) w)))))
theorem zt_X13_variant_p7 {E : zE} {L : Nat} {Q : kx_Rs → wS → Prop} {x2 : Int32} {x3 : Int32} {w : wS} (hL : 25 ≤ L) (h : zb_X13_variant_p7 E L Q x2 x3 w) : kzE E L kt_M596 7 [(0, .ref (w_adr E.2.1 12 0)), (2, .int x2), (3, .int x3)] [] w Q := by
  unfold zb_X13_variant_p7 at h
  refine kz_iload_n (M := kt_M596) kX13_variant_c0.2.2.2.2.2.1 rfl ?_
  refine kz_if_lt (M := kt_M596) kX13_variant_c0.2.2.2.2.2.2.1 (t := 40) rfl h (fun h => ?_) (fun h => ?_)
  · skip
    exact kz_weak [(0, .ref (w_adr E.2.1 12 0)), (2, .int x2), (3, .int x3)] ⟨rfl, ⟨rfl, ⟨rfl, trivial⟩⟩⟩ rfl (zt_X13_variant_p40 hL  h)
  · skip
    refine kz_aload_n (M := kt_M596) kX13_variant_c0.2.2.2.2.2.2.2.1 rfl ?_
    refine kz_gfc (M := kt_M596) (x := 4120) (c := 12) (o := 0) kX13_variant_c1.1 wf_X13_229 (.inl rfl) ?_
    refine kz_aload_n (M := kt_M596) kX13_variant_c1.2.1 rfl ?_
    refine kz_gfc (M := kt_M596) (x := 4103) (c := 12) (o := 0) kX13_variant_c1.2.2.1 wf_X13_202 (.inl rfl) ?_
    refine kz_iload_n (M := kt_M596) kX13_variant_c1.2.2.2.1 rfl ?_
    refine kz_iald (M := kt_M596) (c := 12) (o := 0) (k := 31) (a := (E.2.1 4103)) kX13_variant_c1.2.2.2.2.1 ow_12_0_31 oa_12_0_31 ot_0 h (fun h => ?_)
    refine kz_iald (M := kt_M596) (c := 12) (o := 0) (k := 48) (a := (E.2.1 4120)) kX13_variant_c1.2.2.2.2.2.1 ow_12_0_48 oa_12_0_48 ot_0 h (fun h => ?_)
    refine kz_aload_n (M := kt_M596) kX13_variant_c1.2.2.2.2.2.2.1 rfl ?_
    refine kz_iload_n (M := kt_M596) kX13_variant_c1.2.2.2.2.2.2.2.1 rfl ?_
    refine kz_cv1 (M := kt_M596) (c := 12) (o := 0) (As := [.int x2]) (rest := [.int (w_a w 12 0 48 (w_a w 12 0 31 (x3).toNatClampNeg).toNatClampNeg)]) kX13_variant_c2.1 wl_X13_1177 wMv_410 rfl (.inl rfl) rfl (Nat.le_trans (Nat.le_of_ble_eq_true rfl) hL) (Nat.le_of_ble_eq_true rfl) (Nat.le_of_ble_eq_true rfl) h (fun v2 w1 hle h => ?_) (fun _ _ _ h => kzx_no rfl h)
    have h := h hle
    refine kz_icmp_eq (M := kt_M596) kX13_variant_c2.2.1 (t := 40) rfl h (fun h => ?_) (fun h => ?_)
    · skip
      exact kz_weak [(0, .ref (w_adr E.2.1 12 0)), (2, .int x2), (3, .int x3)] ⟨rfl, ⟨rfl, ⟨rfl, trivial⟩⟩⟩ rfl (zt_X13_variant_p40 hL  h)
    · skip
      refine kz_aload_n (M := kt_M596) kX13_variant_c2.2.2.1 rfl ?_
      refine kz_gfc (M := kt_M596) (x := 4104) (c := 12) (o := 0) kX13_variant_c2.2.2.2.1 wf_X13_205 (.inl rfl) ?_
      refine kz_iload_n (M := kt_M596) kX13_variant_c2.2.2.2.2.1 rfl ?_
      refine kz_iald (M := kt_M596) (c := 12) (o := 0) (k := 32) (a := (E.2.1 4104)) kX13_variant_c2.2.2.2.2.2.1 ow_12_0_32 oa_12_0_32 ot_0 h (fun h => ?_)
      refine kz_sti_n (M := kt_M596) [(0, .ref (w_adr E.2.1 12 0)), (2, .int x2)] kX13_variant_c2.2.2.2.2.2.2.1 (Nat.le_of_ble_eq_true rfl) ⟨⟨rfl, rfl, .inl rfl⟩, ⟨⟨rfl, rfl, .inr rfl⟩, trivial⟩⟩ rfl ?_
      refine kz_goto (M := kt_M596) kX13_variant_c2.2.2.2.2.2.2.2.1 (t := 7) rfl ?_
      exact kz_weak [(0, .ref (w_adr E.2.1 12 0)), (2, .int x2), (3, .int (w_a w1 12 0 32 (x3).toNatClampNeg))] ⟨rfl, ⟨rfl, ⟨rfl, trivial⟩⟩⟩ rfl h
def zb_X13_variant_p0 (E : zE) (L : Nat) (Q : kx_Rs → wS → Prop) (x1 : Int32) (x2 : Int32) (w : wS) : Prop := (kx_inb x1 (w_n w 12 0 29) = true ∧ zL_X13_variant_p7 E L Q x2 (w_a w 12 0 29 (x1).toNatClampNeg) w)
theorem zt_X13_variant_p0 {E : zE} {L : Nat} {Q : kx_Rs → wS → Prop} {x1 : Int32} {x2 : Int32} {w : wS} (hL : 25 ≤ L) (h : zb_X13_variant_p0 E L Q x1 x2 w) : kzE E L kt_M596 0 [(0, .ref (w_adr E.2.1 12 0)), (1, .int x1), (2, .int x2)] [] w Q := by
  unfold zb_X13_variant_p0 at h
  refine kz_aload_n (M := kt_M596) kX13_variant_c0.1 rfl ?_
  refine kz_gfc (M := kt_M596) (x := 4101) (c := 12) (o := 0) kX13_variant_c0.2.1 wf_X13_196 (.inl rfl) ?_
  refine kz_iload_n (M := kt_M596) kX13_variant_c0.2.2.1 rfl ?_
  refine kz_iald (M := kt_M596) (c := 12) (o := 0) (k := 29) (a := (E.2.1 4101)) kX13_variant_c0.2.2.2.1 ow_12_0_29 oa_12_0_29 ot_0 h (fun h => ?_)
  refine kz_sti_n (M := kt_M596) [(0, .ref (w_adr E.2.1 12 0)), (2, .int x2)] kX13_variant_c0.2.2.2.2.1 (Nat.le_of_ble_eq_true rfl) ⟨⟨rfl, rfl, .inl rfl⟩, ⟨⟨rfl, rfl, .inr rfl⟩, trivial⟩⟩ rfl ?_
  exact kz_weak [(0, .ref (w_adr E.2.1 12 0)), (2, .int x2), (3, .int (w_a w 12 0 29 (x1).toNatClampNeg))] ⟨rfl, ⟨rfl, ⟨rfl, trivial⟩⟩⟩ rfl h
def zb_X13_stopped_p0 (E : zE) (L : Nat) (Q : kx_Rs → wS → Prop) (w : wS) : Prop := zw E (L - 21) kt_M392 [.ref (w_adr E.2.1 12 0), .int 0] (ws_i (ws_i w 12 0 134 0) 12 0 174 0) (wk0 (fun w1 => wle (ws_i (ws_i w 12 0 134 0) 12 0 174 0) w1 → zw E (L - 20) kt_M529 [.ref (w_adr E.2.1 12 0)] w1 (wk0 (fun w3 => wle w1 w3 → (kx_inb (w_i w3 12 0 161) (w_n w3 12 0 147) = true ∧ (kx_inb (w_i w3 12 0 161) (w_n w3 12 0 154) = true ∧ (kx_inb (w_i w3 12 0 161) (w_n w3 12 0 153) = true ∧ Q (.inl none) (ws_a (ws_a (ws_a w3 12 0 147 (w_i w3 12 0 161).toNatClampNeg 7) 12 0 154 (w_i w3 12 0 161).toNatClampNeg (w_i w3 12 0 72)) 12 0 153 (w_i w3 12 0 161).toNatClampNeg (w_i w3 12 0 164)))))) (fun e w => Q (.inr e) w))) (fun e w => Q (.inr e) w))
theorem zt_X13_stopped_p0 {E : zE} {L : Nat} {Q : kx_Rs → wS → Prop} {w : wS} (hL : 21 ≤ L) (h : zb_X13_stopped_p0 E L Q  w) : kzE E L kt_M546 0 [(0, .ref (w_adr E.2.1 12 0))] [] w Q := by
  unfold zb_X13_stopped_p0 at h
  refine kz_aload_n (M := kt_M546) kX13_stopped_c0.1 rfl ?_
  refine kz_ic (M := kt_M546) 0 kX13_stopped_c0.2.1 rfl ?_
  refine kz_pfi (M := kt_M546) (c := 12) (o := 0) kX13_stopped_c0.2.2.1 wq_X13_1272 (.inl rfl) ?_
  refine kz_aload_n (M := kt_M546) kX13_stopped_c0.2.2.2.1 rfl ?_
  refine kz_ic (M := kt_M546) 0 kX13_stopped_c0.2.2.2.2.1 rfl ?_
  refine kz_pfi (M := kt_M546) (c := 12) (o := 0) kX13_stopped_c0.2.2.2.2.2.1 wq_X13_1325 (.inl rfl) ?_
  refine kz_aload_n (M := kt_M546) kX13_stopped_c0.2.2.2.2.2.2.1 rfl ?_
  refine kz_ic (M := kt_M546) 0 kX13_stopped_c0.2.2.2.2.2.2.2.1 rfl ?_
  refine kz_cv0 (M := kt_M546) (c := 12) (o := 0) (As := [.int 0]) (rest := []) kX13_stopped_c1.1 wl_X13_1287 wMv_392 rfl (.inl rfl) rfl (Nat.le_trans (Nat.le_of_ble_eq_true rfl) hL) (Nat.le_of_ble_eq_true rfl) (Nat.le_of_ble_eq_true rfl) h (fun w1 hle h => ?_) (fun _ _ _ h => kzx_no rfl h)
  have h := h hle
  refine kz_aload_n (M := kt_M546) kX13_stopped_c1.2.1 rfl ?_
  refine kz_cv0 (M := kt_M546) (c := 12) (o := 0) (As := []) (rest := []) kX13_stopped_c1.2.2.1 wl_X13_1319 wMv_529 rfl (.inl rfl) rfl (Nat.le_trans (Nat.le_of_ble_eq_true rfl) hL) (Nat.le_of_ble_eq_true rfl) (Nat.le_of_ble_eq_true rfl) h (fun w3 hle h => ?_) (fun _ _ _ h => kzx_no rfl h)
  have h := h hle
  refine kz_aload_n (M := kt_M546) kX13_stopped_c1.2.2.2.1 rfl ?_
  refine kz_gfc (M := kt_M546) (x := 4219) (c := 12) (o := 0) kX13_stopped_c1.2.2.2.2.1 wf_X13_394 (.inl rfl) ?_
  refine kz_aload_n (M := kt_M546) kX13_stopped_c1.2.2.2.2.2.1 rfl ?_
  refine kz_gfi (M := kt_M546) (c := 12) (o := 0) kX13_stopped_c1.2.2.2.2.2.2.1 wf_X13_1168 (.inl rfl) ?_
  refine kz_bi (M := kt_M546) 7 kX13_stopped_c1.2.2.2.2.2.2.2.1 rfl ?_
  refine kz_iast (M := kt_M546) (c := 12) (o := 0) (k := 147) (a := (E.2.1 4219)) kX13_stopped_c2.1 ow_12_0_147 oa_12_0_147 ot_0 h (fun h => ?_)
  refine kz_aload_n (M := kt_M546) kX13_stopped_c2.2.1 rfl ?_
  refine kz_gfc (M := kt_M546) (x := 4226) (c := 12) (o := 0) kX13_stopped_c2.2.2.1 wf_X13_415 (.inl rfl) ?_
  refine kz_aload_n (M := kt_M546) kX13_stopped_c2.2.2.2.1 rfl ?_
  refine kz_gfiR (M := kt_M546) (c := 12) (o := 0) (w_i w3 12 0 161) kX13_stopped_c2.2.2.2.2.1 wf_X13_1168 (.inl rfl) rd_i_a ?_
  refine kz_aload_n (M := kt_M546) kX13_stopped_c2.2.2.2.2.2.1 rfl ?_
  refine kz_gfiR (M := kt_M546) (c := 12) (o := 0) (w_i w3 12 0 72) kX13_stopped_c2.2.2.2.2.2.2.1 wf_X13_836 (.inl rfl) rd_i_a ?_
  refine kz_iastR (M := kt_M546) (n := w_n w3 12 0 154) (c := 12) (o := 0) (k := 154) (a := (E.2.1 4226)) kX13_stopped_c2.2.2.2.2.2.2.2.1 ow_12_0_154 oa_12_0_154 ot_0 rd_n_a h (fun h => ?_)
  refine kz_aload_n (M := kt_M546) kX13_stopped_c3.1 rfl ?_
  refine kz_gfc (M := kt_M546) (x := 4225) (c := 12) (o := 0) kX13_stopped_c3.2.1 wf_X13_412 (.inl rfl) ?_
  refine kz_aload_n (M := kt_M546) kX13_stopped_c3.2.2.1 rfl ?_
  refine kz_gfiR (M := kt_M546) (c := 12) (o := 0) (w_i w3 12 0 161) kX13_stopped_c3.2.2.2.1 wf_X13_1168 (.inl rfl) (rd_i_a.trans rd_i_a) ?_
  refine kz_aload_n (M := kt_M546) kX13_stopped_c3.2.2.2.2.1 rfl ?_
  refine kz_gfiR (M := kt_M546) (c := 12) (o := 0) (w_i w3 12 0 164) kX13_stopped_c3.2.2.2.2.2.1 wf_X13_1302 (.inl rfl) (rd_i_a.trans rd_i_a) ?_
  refine kz_iastR (M := kt_M546) (n := w_n w3 12 0 153) (c := 12) (o := 0) (k := 153) (a := (E.2.1 4225)) kX13_stopped_c3.2.2.2.2.2.2.1 ow_12_0_153 oa_12_0_153 ot_0 (rd_n_a.trans rd_n_a) h (fun h => ?_)
  exact kz_ret (M := kt_M546) kX13_stopped_c3.2.2.2.2.2.2.2.1 rfl h
def zL_X13_dropTables_p0 (E : zE) (L : Nat) (Q : kx_Rs → wS → Prop) (x1 : Int32) (w : wS) : Prop := kzE E L kt_M392 0 [(0, .ref (w_adr E.2.1 12 0)), (1, .int x1)] [] w Q
def zb_X13_dropTables_p0 (E : zE) (L : Nat) (Q : kx_Rs → wS → Prop) (x1 : Int32) (w : wS) : Prop := (if w_i w 12 0 170 ≤ x1 then Q (.inl none) w else (kx_inb ((w_i w 12 0 170) - 1) (w_n w 12 0 171) = true ∧ (kx_inb ((w_i w 12 0 170) - 1) (w_n w 12 0 172) = true ∧ zw E (L - 26) kt_M551 [.ref (w_adr E.2.1 12 0), .int (w_a w 12 0 171 (((w_i w 12 0 170) - 1)).toNatClampNeg), .int (w_a w 12 0 172 (((w_i w 12 0 170) - 1)).toNatClampNeg)] (ws_i w 12 0 170 ((w_i w 12 0 170) - 1)) (wk0 (fun w1 => wle (ws_i w 12 0 170 ((w_i w 12 0 170) - 1)) w1 → zL_X13_dropTables_p0 E L Q x1 w1) (fun e w => Q (.inr e) w)))))
theorem zt_X13_dropTables_p0 {E : zE} {L : Nat} {Q : kx_Rs → wS → Prop} {x1 : Int32} {w : wS} (hL : 26 ≤ L) (h : zb_X13_dropTables_p0 E L Q x1 w) : kzE E L kt_M392 0 [(0, .ref (w_adr E.2.1 12 0)), (1, .int x1)] [] w Q := by
  unfold zb_X13_dropTables_p0 at h
  refine kz_aload_n (M := kt_M392) kX13_dropTables_c0.1 rfl ?_
  refine kz_gfi (M := kt_M392) (c := 12) (o := 0) kX13_dropTables_c0.2.1 wf_X13_1201 (.inl rfl) ?_
  refine kz_iload_n (M := kt_M392) kX13_dropTables_c0.2.2.1 rfl ?_
  refine kz_icmp_le (M := kt_M392) kX13_dropTables_c0.2.2.2.1 (t := 43) rfl h (fun h => ?_) (fun h => ?_)
  · skip
    exact kz_ret (M := kt_M392) kX13_dropTables_c2.2.2.2.2.2.2.2.1 rfl h
  · skip
    refine kz_aload_n (M := kt_M392) kX13_dropTables_c0.2.2.2.2.1 rfl ?_
    refine kz_dup (M := kt_M392) kX13_dropTables_c0.2.2.2.2.2.1 rfl ?_
    refine kz_gfi (M := kt_M392) (c := 12) (o := 0) kX13_dropTables_c0.2.2.2.2.2.2.1 wf_X13_1201 (.inl rfl) ?_
    refine kz_ic (M := kt_M392) 1 kX13_dropTables_c0.2.2.2.2.2.2.2.1 rfl ?_
    refine kz_isub (M := kt_M392) kX13_dropTables_c1.1 ?_
    refine kz_pfi (M := kt_M392) (c := 12) (o := 0) kX13_dropTables_c1.2.1 wq_X13_1201 (.inl rfl) ?_
    refine kz_aload_n (M := kt_M392) kX13_dropTables_c1.2.2.1 rfl ?_
    refine kz_aload_n (M := kt_M392) kX13_dropTables_c1.2.2.2.1 rfl ?_
    refine kz_gfa (M := kt_M392) (c := 12) (o := 0) kX13_dropTables_c1.2.2.2.2.1 wf_X13_439 (.inl rfl) ?_
    refine kz_aload_n (M := kt_M392) kX13_dropTables_c1.2.2.2.2.2.1 rfl ?_
    refine kz_gfiR (M := kt_M392) (c := 12) (o := 0) ((w_i w 12 0 170) - 1) kX13_dropTables_c1.2.2.2.2.2.2.1 wf_X13_1201 (.inl rfl) rd_i_e ?_
    refine kz_ialdR (M := kt_M392) (n := w_n w 12 0 171) (c := 12) (o := 0) (k := 171) (a := (w_d (ws_i w 12 0 170 ((w_i w 12 0 170) - 1)) 12 0 171)) (w_a w 12 0 171 (((w_i w 12 0 170) - 1)).toNatClampNeg) kX13_dropTables_c1.2.2.2.2.2.2.2.1 ow_12_0_171 oa_12_0_171 ot_0 rd_n_i rd_a_i h (fun h => ?_)
    refine kz_aload_n (M := kt_M392) kX13_dropTables_c2.1 rfl ?_
    refine kz_gfa (M := kt_M392) (c := 12) (o := 0) kX13_dropTables_c2.2.1 wf_X13_442 (.inl rfl) ?_
    refine kz_aload_n (M := kt_M392) kX13_dropTables_c2.2.2.1 rfl ?_
    refine kz_gfiR (M := kt_M392) (c := 12) (o := 0) ((w_i w 12 0 170) - 1) kX13_dropTables_c2.2.2.2.1 wf_X13_1201 (.inl rfl) rd_i_e ?_
    refine kz_ialdR (M := kt_M392) (n := w_n w 12 0 172) (c := 12) (o := 0) (k := 172) (a := (w_d (ws_i w 12 0 170 ((w_i w 12 0 170) - 1)) 12 0 172)) (w_a w 12 0 172 (((w_i w 12 0 170) - 1)).toNatClampNeg) kX13_dropTables_c2.2.2.2.2.1 ow_12_0_172 oa_12_0_172 ot_0 rd_n_i rd_a_i h (fun h => ?_)
    refine kz_cv0 (M := kt_M392) (c := 12) (o := 0) (As := [.int (w_a w 12 0 171 (((w_i w 12 0 170) - 1)).toNatClampNeg), .int (w_a w 12 0 172 (((w_i w 12 0 170) - 1)).toNatClampNeg)]) (rest := []) kX13_dropTables_c2.2.2.2.2.2.1 wl_X13_1204 wMv_551 rfl (.inl rfl) rfl (Nat.le_trans (Nat.le_of_ble_eq_true rfl) hL) (Nat.le_of_ble_eq_true rfl) (Nat.le_of_ble_eq_true rfl) h (fun w1 hle h => ?_) (fun _ _ _ h => kzx_no rfl h)
    have h := h hle
    refine kz_goto (M := kt_M392) kX13_dropTables_c2.2.2.2.2.2.2.1 (t := 0) rfl ?_
    exact kz_weak [(0, .ref (w_adr E.2.1 12 0)), (1, .int x1)] ⟨rfl, ⟨rfl, trivial⟩⟩ rfl h
def zL_X13_alternate_p177 (E : zE) (L : Nat) (Q : kx_Rs → wS → Prop) (x1 : Int32) (x4 : Int32) (x5 : Int32) (w : wS) : Prop := kzE E L kt_M351 177 [(0, .ref (w_adr E.2.1 12 0)), (1, .int x1), (4, .int x4), (5, .int x5)] [] w Q
def zL_X13_alternate_p42 (E : zE) (L : Nat) (Q : kx_Rs → wS → Prop) (x1 : Int32) (x2 : Int32) (x3 : Int32) (x4 : Int32) (w : wS) : Prop := kzE E L kt_M351 42 [(0, .ref (w_adr E.2.1 12 0)), (1, .int x1), (2, .int x2), (3, .int x3), (4, .int x4)] [] w Q
def zb_X13_alternate_p207 (E : zE) (L : Nat) (Q : kx_Rs → wS → Prop) (x1 : Int32) (x5 : Int32) (y0 : Int32) (y1 : Int32) (w : wS) : Prop := zL_X13_alternate_p177 E L Q x1 (y1 - y0) (x5 + 4) w
theorem zt_X13_alternate_p207 {E : zE} {L : Nat} {Q : kx_Rs → wS → Prop} {x1 : Int32} {x5 : Int32} {y0 : Int32} {y1 : Int32} {w : wS} (hL : 28 ≤ L) (h : zb_X13_alternate_p207 E L Q x1 x5 y0 y1 w) : kzE E L kt_M351 207 [(0, .ref (w_adr E.2.1 12 0)), (1, .int x1), (5, .int x5)] [.int y0, .int y1] w Q := by
  unfold zb_X13_alternate_p207 at h
  refine kz_isub (M := kt_M351) kX13_alternate_c14.2.2.2.1 ?_
  refine kz_sti (M := kt_M351) [(0, .ref (w_adr E.2.1 12 0)), (1, .int x1), (5, .int x5)] kX13_alternate_c14.2.2.2.2.1 (Nat.le_of_ble_eq_true rfl) ⟨⟨rfl, rfl, .inl rfl⟩, ⟨⟨rfl, rfl, .inl rfl⟩, ⟨⟨rfl, rfl, .inl rfl⟩, trivial⟩⟩⟩ rfl ?_
  refine kz_inc (M := kt_M351) [(0, .ref (w_adr E.2.1 12 0)), (1, .int x1), (4, .int (y1 - y0))] kX13_alternate_c14.2.2.2.2.2.1 rfl (Nat.le_of_ble_eq_true rfl) ⟨⟨rfl, rfl, .inl rfl⟩, ⟨⟨rfl, rfl, .inl rfl⟩, ⟨⟨rfl, rfl, .inr rfl⟩, trivial⟩⟩⟩ rfl ?_
  refine kz_goto (M := kt_M351) kX13_alternate_c14.2.2.2.2.2.2.1 (t := 177) rfl ?_
  exact kz_weak [(0, .ref (w_adr E.2.1 12 0)), (1, .int x1), (4, .int (y1 - y0)), (5, .int (x5 + 4))] ⟨rfl, ⟨rfl, ⟨rfl, ⟨rfl, trivial⟩⟩⟩⟩ rfl h
def zb_X13_alternate_p191 (E : zE) (L : Nat) (Q : kx_Rs → wS → Prop) (x1 : Int32) (x4 : Int32) (x5 : Int32) (w : wS) : Prop := zw E (L - 22) kt_M446 [.ref (w_adr E.2.1 12 0), .int x5] w (wk1 (fun v2 w1 => wle w w1 → (if v2 = 0 then zb_X13_alternate_p207 E L Q x1 x5 0 x4 w1 else zb_X13_alternate_p207 E L Q x1 x5 1 x4 w1)) (fun e w => Q (.inr e) w))
theorem zt_X13_alternate_p191 {E : zE} {L : Nat} {Q : kx_Rs → wS → Prop} {x1 : Int32} {x4 : Int32} {x5 : Int32} {w : wS} (hL : 28 ≤ L) (h : zb_X13_alternate_p191 E L Q x1 x4 x5 w) : kzE E L kt_M351 191 [(0, .ref (w_adr E.2.1 12 0)), (1, .int x1), (4, .int x4), (5, .int x5)] [] w Q := by
  unfold zb_X13_alternate_p191 at h
  refine kz_iload (M := kt_M351) kX13_alternate_c13.2.2.2.1 rfl ?_
  refine kz_aload_n (M := kt_M351) kX13_alternate_c13.2.2.2.2.1 rfl ?_
  refine kz_iload (M := kt_M351) kX13_alternate_c13.2.2.2.2.2.1 rfl ?_
  refine kz_cv1 (M := kt_M351) (c := 12) (o := 0) (As := [.int x5]) (rest := [.int x4]) kX13_alternate_c13.2.2.2.2.2.2.1 wl_X13_1460 wMv_446 rfl (.inl rfl) rfl (Nat.le_trans (Nat.le_of_ble_eq_true rfl) hL) (Nat.le_of_ble_eq_true rfl) (Nat.le_of_ble_eq_true rfl) h (fun v2 w1 hle h => ?_) (fun _ _ _ h => kzx_no rfl h)
  have h := h hle
  refine kz_if_eq (M := kt_M351) kX13_alternate_c13.2.2.2.2.2.2.2.1 (t := 206) rfl h (fun h => ?_) (fun h => ?_)
  · skip
    refine kz_ic (M := kt_M351) 0 kX13_alternate_c14.2.2.1 rfl ?_
    exact kz_weak [(0, .ref (w_adr E.2.1 12 0)), (1, .int x1), (5, .int x5)] ⟨rfl, ⟨rfl, ⟨rfl, trivial⟩⟩⟩ rfl (zt_X13_alternate_p207 hL  h)
  · skip
    refine kz_ic (M := kt_M351) 1 kX13_alternate_c14.1 rfl ?_
    refine kz_goto (M := kt_M351) kX13_alternate_c14.2.1 (t := 207) rfl ?_
    exact kz_weak [(0, .ref (w_adr E.2.1 12 0)), (1, .int x1), (5, .int x5)] ⟨rfl, ⟨rfl, ⟨rfl, trivial⟩⟩⟩ rfl (zt_X13_alternate_p207 hL  h)
def zb_X13_alternate_p177 (E : zE) (L : Nat) (Q : kx_Rs → wS → Prop) (x1 : Int32) (x4 : Int32) (x5 : Int32) (w : wS) : Prop := zw E (L - 22) kt_M446 [.ref (w_adr E.2.1 12 0), .int x5] w (wk1 (fun v2 w1 => wle w w1 → (if v2 = 0 then zb_X13_alternate_p191 E L Q x1 x4 x5 w1 else (if x4 ≤ 0 then zw E (L - 26) kt_M555 [.ref (w_adr E.2.1 12 0), .int x1, .int x5] w1 (wk0 (fun w3 => wle w1 w3 → Q (.inl none) w3) (fun e w => Q (.inr e) w)) else zb_X13_alternate_p191 E L Q x1 x4 x5 w1))) (fun e w => Q (.inr e) w))
theorem zt_X13_alternate_p177 {E : zE} {L : Nat} {Q : kx_Rs → wS → Prop} {x1 : Int32} {x4 : Int32} {x5 : Int32} {w : wS} (hL : 28 ≤ L) (h : zb_X13_alternate_p177 E L Q x1 x4 x5 w) : kzE E L kt_M351 177 [(0, .ref (w_adr E.2.1 12 0)), (1, .int x1), (4, .int x4), (5, .int x5)] [] w Q := by
  unfold zb_X13_alternate_p177 at h
  refine kz_aload_n (M := kt_M351) kX13_alternate_c12.2.2.2.2.2.1 rfl ?_
  refine kz_iload (M := kt_M351) kX13_alternate_c12.2.2.2.2.2.2.1 rfl ?_
  refine kz_cv1 (M := kt_M351) (c := 12) (o := 0) (As := [.int x5]) (rest := []) kX13_alternate_c12.2.2.2.2.2.2.2.1 wl_X13_1460 wMv_446 rfl (.inl rfl) rfl (Nat.le_trans (Nat.le_of_ble_eq_true rfl) hL) (Nat.le_of_ble_eq_true rfl) (Nat.le_of_ble_eq_true rfl) h (fun v2 w1 hle h => ?_) (fun _ _ _ h => kzx_no rfl h)
  have h := h hle
  refine kz_if_eq (M := kt_M351) kX13_alternate_c13.1 (t := 191) rfl h (fun h => ?_) (fun h => ?_)
  · skip
    exact kz_weak [(0, .ref (w_adr E.2.1 12 0)), (1, .int x1), (4, .int x4), (5, .int x5)] ⟨rfl, ⟨rfl, ⟨rfl, ⟨rfl, trivial⟩⟩⟩⟩ rfl (zt_X13_alternate_p191 hL  h)
  · skip
    refine kz_iload (M := kt_M351) kX13_alternate_c13.2.1 rfl ?_
    refine kz_if_le (M := kt_M351) kX13_alternate_c13.2.2.1 (t := 216) rfl h (fun h => ?_) (fun h => ?_)
    · skip
      refine kz_aload_n (M := kt_M351) kX13_alternate_c14.2.2.2.2.2.2.2.1 rfl ?_
      refine kz_iload_n (M := kt_M351) kX13_alternate_c15.1 rfl ?_
      refine kz_iload (M := kt_M351) kX13_alternate_c15.2.1 rfl ?_
      refine kz_cv0 (M := kt_M351) (c := 12) (o := 0) (As := [.int x1, .int x5]) (rest := []) kX13_alternate_c15.2.2.1 wl_X13_1466 wMv_555 rfl (.inl rfl) rfl (Nat.le_trans (Nat.le_of_ble_eq_true rfl) hL) (Nat.le_of_ble_eq_true rfl) (Nat.le_of_ble_eq_true rfl) h (fun w3 hle h => ?_) (fun _ _ _ h => kzx_no rfl h)
      have h := h hle
      exact kz_ret (M := kt_M351) kX13_alternate_c15.2.2.2.1 rfl h
    · skip
      exact kz_weak [(0, .ref (w_adr E.2.1 12 0)), (1, .int x1), (4, .int x4), (5, .int x5)] ⟨rfl, ⟨rfl, ⟨rfl, ⟨rfl, trivial⟩⟩⟩⟩ rfl (zt_X13_alternate_p191 hL  h)
def zb_X13_alternate_p164 (E : zE) (L : Nat) (Q : kx_Rs → wS → Prop) (x1 : Int32) (y0 : Int32) (w : wS) : Prop := (kx_inb (w_i w 12 0 161) (w_n w 12 0 157) = true ∧ zL_X13_alternate_p177 E L Q x1 y0 (w_a w 12 0 157 (w_i w 12 0 161).toNatClampNeg) w)
theorem zt_X13_alternate_p164 {E : zE} {L : Nat} {Q : kx_Rs → wS → Prop} {x1 : Int32} {y0 : Int32} {w : wS} (hL : 28 ≤ L) (h : zb_X13_alternate_p164 E L Q x1 y0 w) : kzE E L kt_M351 164 [(0, .ref (w_adr E.2.1 12 0)), (1, .int x1)] [.int y0] w Q := by
  unfold zb_X13_alternate_p164 at h
  refine kz_sti (M := kt_M351) [(0, .ref (w_adr E.2.1 12 0)), (1, .int x1)] kX13_alternate_c11.2.2.2.2.2.2.1 (Nat.le_of_ble_eq_true rfl) ⟨⟨rfl, rfl, .inl rfl⟩, ⟨⟨rfl, rfl, .inl rfl⟩, trivial⟩⟩ rfl ?_
  refine kz_aload_n (M := kt_M351) kX13_alternate_c11.2.2.2.2.2.2.2.1 rfl ?_
  refine kz_gfc (M := kt_M351) (x := 4229) (c := 12) (o := 0) kX13_alternate_c12.1 wf_X13_424 (.inl rfl) ?_
  refine kz_aload_n (M := kt_M351) kX13_alternate_c12.2.1 rfl ?_
  refine kz_gfi (M := kt_M351) (c := 12) (o := 0) kX13_alternate_c12.2.2.1 wf_X13_1168 (.inl rfl) ?_
  refine kz_iald (M := kt_M351) (c := 12) (o := 0) (k := 157) (a := (E.2.1 4229)) kX13_alternate_c12.2.2.2.1 ow_12_0_157 oa_12_0_157 ot_0 h (fun h => ?_)
  refine kz_sti (M := kt_M351) [(0, .ref (w_adr E.2.1 12 0)), (1, .int x1), (4, .int y0)] kX13_alternate_c12.2.2.2.2.1 (Nat.le_of_ble_eq_true rfl) ⟨⟨rfl, rfl, .inl rfl⟩, ⟨⟨rfl, rfl, .inl rfl⟩, ⟨⟨rfl, rfl, .inr rfl⟩, trivial⟩⟩⟩ rfl ?_
  exact kz_weak [(0, .ref (w_adr E.2.1 12 0)), (1, .int x1), (4, .int y0), (5, .int (w_a w 12 0 157 (w_i w 12 0 161).toNatClampNeg))] ⟨rfl, ⟨rfl, ⟨rfl, ⟨rfl, trivial⟩⟩⟩⟩ rfl h
def zb_X13_alternate_p102 (E : zE) (L : Nat) (Q : kx_Rs → wS → Prop) (x1 : Int32) (x3 : Int32) (x4 : Int32) (y0 : Int32) (y1 : Int32) (w : wS) : Prop := zL_X13_alternate_p42 E L Q x1 (y1 + y0) x3 (x4 + 4) w
theorem zt_X13_alternate_p102 {E : zE} {L : Nat} {Q : kx_Rs → wS → Prop} {x1 : Int32} {x3 : Int32} {x4 : Int32} {y0 : Int32} {y1 : Int32} {w : wS} (hL : 28 ≤ L) (h : zb_X13_alternate_p102 E L Q x1 x3 x4 y0 y1 w) : kzE E L kt_M351 102 [(0, .ref (w_adr E.2.1 12 0)), (1, .int x1), (3, .int x3), (4, .int x4)] [.int y0, .int y1] w Q := by
  unfold zb_X13_alternate_p102 at h
  refine kz_iadd (M := kt_M351) kX13_alternate_c7.2.2.1 ?_
  refine kz_sti_n (M := kt_M351) [(0, .ref (w_adr E.2.1 12 0)), (1, .int x1), (3, .int x3), (4, .int x4)] kX13_alternate_c7.2.2.2.1 (Nat.le_of_ble_eq_true rfl) ⟨⟨rfl, rfl, .inl rfl⟩, ⟨⟨rfl, rfl, .inr rfl⟩, ⟨⟨rfl, rfl, .inl rfl⟩, ⟨⟨rfl, rfl, .inl rfl⟩, trivial⟩⟩⟩⟩ rfl ?_
  refine kz_inc (M := kt_M351) [(0, .ref (w_adr E.2.1 12 0)), (1, .int x1), (2, .int (y1 + y0)), (3, .int x3)] kX13_alternate_c7.2.2.2.2.1 rfl (Nat.le_of_ble_eq_true rfl) ⟨⟨rfl, rfl, .inl rfl⟩, ⟨⟨rfl, rfl, .inl rfl⟩, ⟨⟨rfl, rfl, .inl rfl⟩, ⟨⟨rfl, rfl, .inr rfl⟩, trivial⟩⟩⟩⟩ rfl ?_
  refine kz_goto (M := kt_M351) kX13_alternate_c7.2.2.2.2.2.1 (t := 42) rfl ?_
  exact kz_weak [(0, .ref (w_adr E.2.1 12 0)), (1, .int x1), (2, .int (y1 + y0)), (3, .int x3), (4, .int (x4 + 4))] ⟨rfl, ⟨rfl, ⟨rfl, ⟨rfl, ⟨rfl, trivial⟩⟩⟩⟩⟩ rfl h
def zb_X13_alternate_p86 (E : zE) (L : Nat) (Q : kx_Rs → wS → Prop) (x1 : Int32) (x2 : Int32) (x4 : Int32) (y0 : Int32) (w : wS) : Prop := zw E (L - 22) kt_M446 [.ref (w_adr E.2.1 12 0), .int x4] w (wk1 (fun v2 w1 => wle w w1 → (if v2 = 0 then zb_X13_alternate_p102 E L Q x1 y0 x4 0 x2 w1 else zb_X13_alternate_p102 E L Q x1 y0 x4 1 x2 w1)) (fun e w => Q (.inr e) w))
theorem zt_X13_alternate_p86 {E : zE} {L : Nat} {Q : kx_Rs → wS → Prop} {x1 : Int32} {x2 : Int32} {x4 : Int32} {y0 : Int32} {w : wS} (hL : 28 ≤ L) (h : zb_X13_alternate_p86 E L Q x1 x2 x4 y0 w) : kzE E L kt_M351 86 [(0, .ref (w_adr E.2.1 12 0)), (1, .int x1), (2, .int x2), (4, .int x4)] [.int y0] w Q := by
  unfold zb_X13_alternate_p86 at h
  refine kz_sti_n (M := kt_M351) [(0, .ref (w_adr E.2.1 12 0)), (1, .int x1), (2, .int x2), (4, .int x4)] kX13_alternate_c6.2.1 (Nat.le_of_ble_eq_true rfl) ⟨⟨rfl, rfl, .inl rfl⟩, ⟨⟨rfl, rfl, .inl rfl⟩, ⟨⟨rfl, rfl, .inr rfl⟩, ⟨⟨rfl, rfl, .inl rfl⟩, trivial⟩⟩⟩⟩ rfl ?_
  refine kz_iload_n (M := kt_M351) kX13_alternate_c6.2.2.1 rfl ?_
  refine kz_aload_n (M := kt_M351) kX13_alternate_c6.2.2.2.1 rfl ?_
  refine kz_iload (M := kt_M351) kX13_alternate_c6.2.2.2.2.1 rfl ?_
  refine kz_cv1 (M := kt_M351) (c := 12) (o := 0) (As := [.int x4]) (rest := [.int x2]) kX13_alternate_c6.2.2.2.2.2.1 wl_X13_1460 wMv_446 rfl (.inl rfl) rfl (Nat.le_trans (Nat.le_of_ble_eq_true rfl) hL) (Nat.le_of_ble_eq_true rfl) (Nat.le_of_ble_eq_true rfl) h (fun v2 w1 hle h => ?_) (fun _ _ _ h => kzx_no rfl h)
  have h := h hle
  refine kz_if_eq (M := kt_M351) kX13_alternate_c6.2.2.2.2.2.2.1 (t := 101) rfl h (fun h => ?_) (fun h => ?_)
  · skip
    refine kz_ic (M := kt_M351) 0 kX13_alternate_c7.2.1 rfl ?_
    exact kz_weak [(0, .ref (w_adr E.2.1 12 0)), (1, .int x1), (3, .int y0), (4, .int x4)] ⟨rfl, ⟨rfl, ⟨rfl, ⟨rfl, trivial⟩⟩⟩⟩ rfl (zt_X13_alternate_p102 hL  h)
  · skip
    refine kz_ic (M := kt_M351) 1 kX13_alternate_c6.2.2.2.2.2.2.2.1 rfl ?_
    refine kz_goto (M := kt_M351) kX13_alternate_c7.1 (t := 102) rfl ?_
    exact kz_weak [(0, .ref (w_adr E.2.1 12 0)), (1, .int x1), (3, .int y0), (4, .int x4)] ⟨rfl, ⟨rfl, ⟨rfl, ⟨rfl, trivial⟩⟩⟩⟩ rfl (zt_X13_alternate_p102 hL  h)
def zb_X13_alternate_p81 (E : zE) (L : Nat) (Q : kx_Rs → wS → Prop) (x1 : Int32) (x2 : Int32) (x4 : Int32) (w : wS) : Prop := zb_X13_alternate_p86 E L Q x1 x2 x4 1 w
theorem zt_X13_alternate_p81 {E : zE} {L : Nat} {Q : kx_Rs → wS → Prop} {x1 : Int32} {x2 : Int32} {x4 : Int32} {w : wS} (hL : 28 ≤ L) (h : zb_X13_alternate_p81 E L Q x1 x2 x4 w) : kzE E L kt_M351 81 [(0, .ref (w_adr E.2.1 12 0)), (1, .int x1), (2, .int x2), (4, .int x4)] [] w Q := by
  unfold zb_X13_alternate_p81 at h
  refine kz_ic (M := kt_M351) 1 kX13_alternate_c5.2.2.2.2.2.2.1 rfl ?_
  refine kz_goto (M := kt_M351) kX13_alternate_c5.2.2.2.2.2.2.2.1 (t := 86) rfl ?_
  exact kz_weak [(0, .ref (w_adr E.2.1 12 0)), (1, .int x1), (2, .int x2), (4, .int x4)] ⟨rfl, ⟨rfl, ⟨rfl, ⟨rfl, trivial⟩⟩⟩⟩ rfl (zt_X13_alternate_p86 hL  h)
def zb_X13_alternate_p42 (E : zE) (L : Nat) (Q : kx_Rs → wS → Prop) (x1 : Int32) (x2 : Int32) (x3 : Int32) (x4 : Int32) (w : wS) : Prop := (kx_inb (w_i w 12 0 161) (w_n w 12 0 157) = true ∧ (kx_inb (w_i w 12 0 161) (w_n w 12 0 158) = true ∧ (if ((w_a w 12 0 157 (w_i w 12 0 161).toNatClampNeg) + (w_a w 12 0 158 (w_i w 12 0 161).toNatClampNeg)) ≤ x4 then (kx_inb x1 (w_n w 12 0 27) = true ∧ (if ¬ x3 = 0 then (if ¬ x2 = 0 then (kx_inb x1 (w_n w 12 0 30) = true ∧ (if ¬ w_a w 12 0 30 (x1).toNatClampNeg = 1 then zw E (L - 21) kt_M389 [.ref (w_adr E.2.1 12 0), .int x2] (ws_i w 12 0 164 (w_a w 12 0 27 (x1).toNatClampNeg)) (wk1 (fun v2 w1 => wle (ws_i w 12 0 164 (w_a w 12 0 27 (x1).toNatClampNeg)) w1 → zb_X13_alternate_p164 E L Q x1 v2 w1) (fun e w => Q (.inr e) w)) else zb_X13_alternate_p164 E L Q x1 0 (ws_i w 12 0 164 (w_a w 12 0 27 (x1).toNatClampNeg)))) else (kx_inb (w_i w 12 0 161) (w_n w 12 0 147) = true ∧ Q (.inl none) (ws_a (ws_i w 12 0 164 (w_a w 12 0 27 (x1).toNatClampNeg)) 12 0 147 (w_i w 12 0 161).toNatClampNeg 3))) else zw E (L - 21) kt_M408 [.ref (w_adr E.2.1 12 0), .int 0] (ws_i w 12 0 164 (w_a w 12 0 27 (x1).toNatClampNeg)) (wkr (fun v4 w3 => wle (ws_i w 12 0 164 (w_a w 12 0 27 (x1).toNatClampNeg)) w3 → (v4 = some (w_adr E.2.1 13 0) ∧ Q (.inr "MeetingHouseModel$Halt") w3)) (fun e w => Q (.inr e) w)))) else (if ¬ x3 = 0 then zb_X13_alternate_p81 E L Q x1 x2 x4 w else zw E (L - 21) kt_M410 [.ref (w_adr E.2.1 12 0), .int (x4 + 2)] w (wk1 (fun v6 w5 => wle w w5 → (if v6 ≤ 0 then zb_X13_alternate_p86 E L Q x1 x2 x4 0 w5 else zb_X13_alternate_p81 E L Q x1 x2 x4 w5)) (fun e w => Q (.inr e) w))))))
theorem zt_X13_alternate_p42 {E : zE} {L : Nat} {Q : kx_Rs → wS → Prop} {x1 : Int32} {x2 : Int32} {x3 : Int32} {x4 : Int32} {w : wS} (hL : 28 ≤ L) (h : zb_X13_alternate_p42 E L Q x1 x2 x3 x4 w) : kzE E L kt_M351 42 [(0, .ref (w_adr E.2.1 12 0)), (1, .int x1), (2, .int x2), (3, .int x3), (4, .int x4)] [] w Q := by
  unfold zb_X13_alternate_p42 at h
  refine kz_iload (M := kt_M351) kX13_alternate_c3.2.1 rfl ?_
  refine kz_aload_n (M := kt_M351) kX13_alternate_c3.2.2.1 rfl ?_
  refine kz_gfc (M := kt_M351) (x := 4229) (c := 12) (o := 0) kX13_alternate_c3.2.2.2.1 wf_X13_424 (.inl rfl) ?_
  refine kz_aload_n (M := kt_M351) kX13_alternate_c3.2.2.2.2.1 rfl ?_
  refine kz_gfi (M := kt_M351) (c := 12) (o := 0) kX13_alternate_c3.2.2.2.2.2.1 wf_X13_1168 (.inl rfl) ?_
  refine kz_iald (M := kt_M351) (c := 12) (o := 0) (k := 157) (a := (E.2.1 4229)) kX13_alternate_c3.2.2.2.2.2.2.1 ow_12_0_157 oa_12_0_157 ot_0 h (fun h => ?_)
  refine kz_aload_n (M := kt_M351) kX13_alternate_c3.2.2.2.2.2.2.2.1 rfl ?_
  refine kz_gfc (M := kt_M351) (x := 4230) (c := 12) (o := 0) kX13_alternate_c4.1 wf_X13_427 (.inl rfl) ?_
  refine kz_aload_n (M := kt_M351) kX13_alternate_c4.2.1 rfl ?_
  refine kz_gfi (M := kt_M351) (c := 12) (o := 0) kX13_alternate_c4.2.2.1 wf_X13_1168 (.inl rfl) ?_
  refine kz_iald (M := kt_M351) (c := 12) (o := 0) (k := 158) (a := (E.2.1 4230)) kX13_alternate_c4.2.2.2.1 ow_12_0_158 oa_12_0_158 ot_0 h (fun h => ?_)
  refine kz_iadd (M := kt_M351) kX13_alternate_c4.2.2.2.2.1 ?_
  refine kz_icmp_ge (M := kt_M351) kX13_alternate_c4.2.2.2.2.2.1 (t := 110) rfl h (fun h => ?_) (fun h => ?_)
  · skip
    refine kz_aload_n (M := kt_M351) kX13_alternate_c7.2.2.2.2.2.2.1 rfl ?_
    refine kz_aload_n (M := kt_M351) kX13_alternate_c7.2.2.2.2.2.2.2.1 rfl ?_
    refine kz_gfc (M := kt_M351) (x := 4099) (c := 12) (o := 0) kX13_alternate_c8.1 wf_X13_190 (.inl rfl) ?_
    refine kz_iload_n (M := kt_M351) kX13_alternate_c8.2.1 rfl ?_
    refine kz_iald (M := kt_M351) (c := 12) (o := 0) (k := 27) (a := (E.2.1 4099)) kX13_alternate_c8.2.2.1 ow_12_0_27 oa_12_0_27 ot_0 h (fun h => ?_)
    refine kz_pfi (M := kt_M351) (c := 12) (o := 0) kX13_alternate_c8.2.2.2.1 wq_X13_1302 (.inl rfl) ?_
    refine kz_iload_n (M := kt_M351) kX13_alternate_c8.2.2.2.2.1 rfl ?_
    refine kz_if_ne (M := kt_M351) kX13_alternate_c8.2.2.2.2.2.1 (t := 130) rfl h (fun h => ?_) (fun h => ?_)
    · skip
      refine kz_iload_n (M := kt_M351) kX13_alternate_c9.2.2.1 rfl ?_
      refine kz_if_ne (M := kt_M351) kX13_alternate_c9.2.2.2.1 (t := 145) rfl h (fun h => ?_) (fun h => ?_)
      · skip
        refine kz_aload_n (M := kt_M351) kX13_alternate_c10.2.2.2.1 rfl ?_
        refine kz_gfc (M := kt_M351) (x := 4102) (c := 12) (o := 0) kX13_alternate_c10.2.2.2.2.1 wf_X13_199 (.inl rfl) ?_
        refine kz_iload_n (M := kt_M351) kX13_alternate_c10.2.2.2.2.2.1 rfl ?_
        refine kz_ialdR (M := kt_M351) (n := w_n w 12 0 30) (c := 12) (o := 0) (k := 30) (a := (E.2.1 4102)) (w_a w 12 0 30 (x1).toNatClampNeg) kX13_alternate_c10.2.2.2.2.2.2.1 ow_12_0_30 oa_12_0_30 ot_0 rd_n_i rd_a_i h (fun h => ?_)
        refine kz_ic (M := kt_M351) 1 kX13_alternate_c10.2.2.2.2.2.2.2.1 rfl ?_
        refine kz_icmp_ne (M := kt_M351) kX13_alternate_c11.1 (t := 159) rfl h (fun h => ?_) (fun h => ?_)
        · skip
          refine kz_aload_n (M := kt_M351) kX13_alternate_c11.2.2.2.1 rfl ?_
          refine kz_iload_n (M := kt_M351) kX13_alternate_c11.2.2.2.2.1 rfl ?_
          refine kz_cv1 (M := kt_M351) (c := 12) (o := 0) (As := [.int x2]) (rest := []) kX13_alternate_c11.2.2.2.2.2.1 wl_X13_1463 wMv_389 rfl (.inl rfl) rfl (Nat.le_trans (Nat.le_of_ble_eq_true rfl) hL) (Nat.le_of_ble_eq_true rfl) (Nat.le_of_ble_eq_true rfl) h (fun v2 w1 hle h => ?_) (fun _ _ _ h => kzx_no rfl h)
          have h := h hle
          exact kz_weak [(0, .ref (w_adr E.2.1 12 0)), (1, .int x1)] ⟨rfl, ⟨rfl, trivial⟩⟩ rfl (zt_X13_alternate_p164 hL  h)
        · skip
          refine kz_ic (M := kt_M351) 0 kX13_alternate_c11.2.1 rfl ?_
          refine kz_goto (M := kt_M351) kX13_alternate_c11.2.2.1 (t := 164) rfl ?_
          exact kz_weak [(0, .ref (w_adr E.2.1 12 0)), (1, .int x1)] ⟨rfl, ⟨rfl, trivial⟩⟩ rfl (zt_X13_alternate_p164 hL  h)
      · skip
        refine kz_aload_n (M := kt_M351) kX13_alternate_c9.2.2.2.2.1 rfl ?_
        refine kz_gfc (M := kt_M351) (x := 4219) (c := 12) (o := 0) kX13_alternate_c9.2.2.2.2.2.1 wf_X13_394 (.inl rfl) ?_
        refine kz_aload_n (M := kt_M351) kX13_alternate_c9.2.2.2.2.2.2.1 rfl ?_
        refine kz_gfiR (M := kt_M351) (c := 12) (o := 0) (w_i w 12 0 161) kX13_alternate_c9.2.2.2.2.2.2.2.1 wf_X13_1168 (.inl rfl) (rd_i_i rfl) ?_
        refine kz_ic (M := kt_M351) 3 kX13_alternate_c10.1 rfl ?_
        refine kz_iastR (M := kt_M351) (n := w_n w 12 0 147) (c := 12) (o := 0) (k := 147) (a := (E.2.1 4219)) kX13_alternate_c10.2.1 ow_12_0_147 oa_12_0_147 ot_0 rd_n_i h (fun h => ?_)
        exact kz_ret (M := kt_M351) kX13_alternate_c10.2.2.1 rfl h
    · skip
      refine kz_aload_n (M := kt_M351) kX13_alternate_c8.2.2.2.2.2.2.1 rfl ?_
      refine kz_ic (M := kt_M351) 0 kX13_alternate_c8.2.2.2.2.2.2.2.1 rfl ?_
      refine kz_cvr (M := kt_M351) (c := 12) (o := 0) (As := [.int 0]) (rest := []) kX13_alternate_c9.1 wl_X13_839 wMv_408 rfl (.inl rfl) rfl (Nat.le_trans (Nat.le_of_ble_eq_true rfl) hL) (Nat.le_of_ble_eq_true rfl) (Nat.le_of_ble_eq_true rfl) h (fun v4 w3 hle h => ?_) (fun _ _ _ h => kzx_no rfl h)
      have h := h hle
      exact kz_throw (M := kt_M351) (c := 13) (o := 0) kX13_alternate_c9.2.1 rfl (.inl rfl) h (fun h => kzx_no rfl h)
  · skip
    refine kz_iload_n (M := kt_M351) kX13_alternate_c4.2.2.2.2.2.2.1 rfl ?_
    refine kz_if_ne (M := kt_M351) kX13_alternate_c4.2.2.2.2.2.2.2.1 (t := 81) rfl h (fun h => ?_) (fun h => ?_)
    · skip
      exact kz_weak [(0, .ref (w_adr E.2.1 12 0)), (1, .int x1), (2, .int x2), (4, .int x4)] ⟨rfl, ⟨rfl, ⟨rfl, ⟨rfl, trivial⟩⟩⟩⟩ rfl (zt_X13_alternate_p81 hL  h)
    · skip
      refine kz_aload_n (M := kt_M351) kX13_alternate_c5.1 rfl ?_
      refine kz_iload (M := kt_M351) kX13_alternate_c5.2.1 rfl ?_
      refine kz_ic (M := kt_M351) 2 kX13_alternate_c5.2.2.1 rfl ?_
      refine kz_iadd (M := kt_M351) kX13_alternate_c5.2.2.2.1 ?_
      refine kz_cv1 (M := kt_M351) (c := 12) (o := 0) (As := [.int (x4 + 2)]) (rest := []) kX13_alternate_c5.2.2.2.2.1 wl_X13_1177 wMv_410 rfl (.inl rfl) rfl (Nat.le_trans (Nat.le_of_ble_eq_true rfl) hL) (Nat.le_of_ble_eq_true rfl) (Nat.le_of_ble_eq_true rfl) h (fun v6 w5 hle h => ?_) (fun _ _ _ h => kzx_no rfl h)
      have h := h hle
      refine kz_if_le (M := kt_M351) kX13_alternate_c5.2.2.2.2.2.1 (t := 85) rfl h (fun h => ?_) (fun h => ?_)
      · skip
        refine kz_ic (M := kt_M351) 0 kX13_alternate_c6.1 rfl ?_
        exact kz_weak [(0, .ref (w_adr E.2.1 12 0)), (1, .int x1), (2, .int x2), (4, .int x4)] ⟨rfl, ⟨rfl, ⟨rfl, ⟨rfl, trivial⟩⟩⟩⟩ rfl (zt_X13_alternate_p86 hL  h)
      · skip
        exact kz_weak [(0, .ref (w_adr E.2.1 12 0)), (1, .int x1), (2, .int x2), (4, .int x4)] ⟨rfl, ⟨rfl, ⟨rfl, ⟨rfl, trivial⟩⟩⟩⟩ rfl (zt_X13_alternate_p81 hL  h)
def zb_X13_alternate_p27 (E : zE) (L : Nat) (Q : kx_Rs → wS → Prop) (x1 : Int32) (w : wS) : Prop := (kx_inb (w_i w 12 0 161) (w_n w 12 0 157) = true ∧ zL_X13_alternate_p42 E L Q x1 0 0 (w_a w 12 0 157 (w_i w 12 0 161).toNatClampNeg) w)
theorem zt_X13_alternate_p27 {E : zE} {L : Nat} {Q : kx_Rs → wS → Prop} {x1 : Int32} {w : wS} (hL : 28 ≤ L) (h : zb_X13_alternate_p27 E L Q x1 w) : kzE E L kt_M351 27 [(0, .ref (w_adr E.2.1 12 0)), (1, .int x1)] [] w Q := by
  unfold zb_X13_alternate_p27 at h
  refine kz_ic (M := kt_M351) 0 kX13_alternate_c1.2.2.2.2.2.2.2.1 rfl ?_
  refine kz_sti_n (M := kt_M351) [(0, .ref (w_adr E.2.1 12 0)), (1, .int x1)] kX13_alternate_c2.1 (Nat.le_of_ble_eq_true rfl) ⟨⟨rfl, rfl, .inl rfl⟩, ⟨⟨rfl, rfl, .inr rfl⟩, trivial⟩⟩ rfl ?_
  refine kz_ic (M := kt_M351) 0 kX13_alternate_c2.2.1 rfl ?_
  refine kz_sti_n (M := kt_M351) [(0, .ref (w_adr E.2.1 12 0)), (1, .int x1), (2, .int 0)] kX13_alternate_c2.2.2.1 (Nat.le_of_ble_eq_true rfl) ⟨⟨rfl, rfl, .inl rfl⟩, ⟨⟨rfl, rfl, .inl rfl⟩, ⟨⟨rfl, rfl, .inr rfl⟩, trivial⟩⟩⟩ rfl ?_
  refine kz_aload_n (M := kt_M351) kX13_alternate_c2.2.2.2.1 rfl ?_
  refine kz_gfc (M := kt_M351) (x := 4229) (c := 12) (o := 0) kX13_alternate_c2.2.2.2.2.1 wf_X13_424 (.inl rfl) ?_
  refine kz_aload_n (M := kt_M351) kX13_alternate_c2.2.2.2.2.2.1 rfl ?_
  refine kz_gfi (M := kt_M351) (c := 12) (o := 0) kX13_alternate_c2.2.2.2.2.2.2.1 wf_X13_1168 (.inl rfl) ?_
  refine kz_iald (M := kt_M351) (c := 12) (o := 0) (k := 157) (a := (E.2.1 4229)) kX13_alternate_c2.2.2.2.2.2.2.2.1 ow_12_0_157 oa_12_0_157 ot_0 h (fun h => ?_)
  refine kz_sti (M := kt_M351) [(0, .ref (w_adr E.2.1 12 0)), (1, .int x1), (2, .int 0), (3, .int 0)] kX13_alternate_c3.1 (Nat.le_of_ble_eq_true rfl) ⟨⟨rfl, rfl, .inl rfl⟩, ⟨⟨rfl, rfl, .inl rfl⟩, ⟨⟨rfl, rfl, .inl rfl⟩, ⟨⟨rfl, rfl, .inr rfl⟩, trivial⟩⟩⟩⟩ rfl ?_
  exact kz_weak [(0, .ref (w_adr E.2.1 12 0)), (1, .int x1), (2, .int 0), (3, .int 0), (4, .int (w_a w 12 0 157 (w_i w 12 0 161).toNatClampNeg))] ⟨rfl, ⟨rfl, ⟨rfl, ⟨rfl, ⟨rfl, trivial⟩⟩⟩⟩⟩ rfl h
def zb_X13_alternate_p0 (E : zE) (L : Nat) (Q : kx_Rs → wS → Prop) (x1 : Int32) (w : wS) : Prop := (kx_inb (w_i w 12 0 161) (w_n w 12 0 159) = true ∧ (if ¬ w_a w 12 0 159 (w_i w 12 0 161).toNatClampNeg = 0 then zb_X13_alternate_p27 E L Q x1 w else zw E (L - 28) kt_M424 [.ref (w_adr E.2.1 12 0), .int x1] w (wk0 (fun w1 => wle w w1 → (kx_inb (w_i w1 12 0 161) (w_n w1 12 0 159) = true ∧ zb_X13_alternate_p27 E L Q x1 (ws_a w1 12 0 159 (w_i w1 12 0 161).toNatClampNeg (vp_nar .boolean 1)))) (fun e w => Q (.inr e) w))))
theorem zt_X13_alternate_p0 {E : zE} {L : Nat} {Q : kx_Rs → wS → Prop} {x1 : Int32} {w : wS} (hL : 28 ≤ L) (h : zb_X13_alternate_p0 E L Q x1 w) : kzE E L kt_M351 0 [(0, .ref (w_adr E.2.1 12 0)), (1, .int x1)] [] w Q := by
  unfold zb_X13_alternate_p0 at h
  refine kz_aload_n (M := kt_M351) kX13_alternate_c0.1 rfl ?_
  refine kz_gfc (M := kt_M351) (x := 4231) (c := 12) (o := 0) kX13_alternate_c0.2.1 wf_X13_430 (.inl rfl) ?_
  refine kz_aload_n (M := kt_M351) kX13_alternate_c0.2.2.1 rfl ?_
  refine kz_gfi (M := kt_M351) (c := 12) (o := 0) kX13_alternate_c0.2.2.2.1 wf_X13_1168 (.inl rfl) ?_
  refine kz_zald (M := kt_M351) (c := 12) (o := 0) (k := 159) (a := (E.2.1 4231)) kX13_alternate_c0.2.2.2.2.1 ow_12_0_159 oa_12_0_159 ot_2 h (fun h => ?_)
  refine kz_if_ne (M := kt_M351) kX13_alternate_c0.2.2.2.2.2.1 (t := 27) rfl h (fun h => ?_) (fun h => ?_)
  · skip
    exact kz_weak [(0, .ref (w_adr E.2.1 12 0)), (1, .int x1)] ⟨rfl, ⟨rfl, trivial⟩⟩ rfl (zt_X13_alternate_p27 hL  h)
  · skip
    refine kz_aload_n (M := kt_M351) kX13_alternate_c0.2.2.2.2.2.2.1 rfl ?_
    refine kz_iload_n (M := kt_M351) kX13_alternate_c0.2.2.2.2.2.2.2.1 rfl ?_
    refine kz_cv0 (M := kt_M351) (c := 12) (o := 0) (As := [.int x1]) (rest := []) kX13_alternate_c1.1 wl_X13_1457 wMv_424 rfl (.inl rfl) rfl (Nat.le_trans (Nat.le_of_ble_eq_true rfl) hL) (Nat.le_of_ble_eq_true rfl) (Nat.le_of_ble_eq_true rfl) h (fun w1 hle h => ?_) (fun _ _ _ h => kzx_no rfl h)
    have h := h hle
    refine kz_aload_n (M := kt_M351) kX13_alternate_c1.2.1 rfl ?_
    refine kz_gfc (M := kt_M351) (x := 4231) (c := 12) (o := 0) kX13_alternate_c1.2.2.1 wf_X13_430 (.inl rfl) ?_
    refine kz_aload_n (M := kt_M351) kX13_alternate_c1.2.2.2.1 rfl ?_
    refine kz_gfi (M := kt_M351) (c := 12) (o := 0) kX13_alternate_c1.2.2.2.2.1 wf_X13_1168 (.inl rfl) ?_
    refine kz_ic (M := kt_M351) 1 kX13_alternate_c1.2.2.2.2.2.1 rfl ?_
    refine kz_zast (M := kt_M351) (c := 12) (o := 0) (k := 159) (a := (E.2.1 4231)) kX13_alternate_c1.2.2.2.2.2.2.1 ow_12_0_159 oa_12_0_159 ot_2 h (fun h => ?_)
    exact kz_weak [(0, .ref (w_adr E.2.1 12 0)), (1, .int x1)] ⟨rfl, ⟨rfl, trivial⟩⟩ rfl (zt_X13_alternate_p27 hL  h)
def zL_X13_guards_p139 (E : zE) (L : Nat) (Q : kx_Rs → wS → Prop) (x1 : Int32) (x2 : Int32) (x3 : Int32) (x6 : Int32) (x7 : Int32) (x8 : Int32) (w : wS) : Prop := kzE E L kt_M424 139 [(0, .ref (w_adr E.2.1 12 0)), (1, .int x1), (2, .int x2), (3, .int x3), (6, .int x6), (7, .int x7), (8, .int x8)] [] w Q
def zL_X13_guards_p98 (E : zE) (L : Nat) (Q : kx_Rs → wS → Prop) (x1 : Int32) (x2 : Int32) (x3 : Int32) (x6 : Int32) (x7 : Int32) (w : wS) : Prop := kzE E L kt_M424 98 [(0, .ref (w_adr E.2.1 12 0)), (1, .int x1), (2, .int x2), (3, .int x3), (6, .int x6), (7, .int x7)] [] w Q
def zL_X13_guards_p33 (E : zE) (L : Nat) (Q : kx_Rs → wS → Prop) (x1 : Int32) (x2 : Int32) (x3 : Int32) (x4 : Int32) (x5 : Int32) (w : wS) : Prop := kzE E L kt_M424 33 [(0, .ref (w_adr E.2.1 12 0)), (1, .int x1), (2, .int x2), (3, .int x3), (4, .int x4), (5, .int x5)] [] w Q
def zb_X13_guards_p223 (E : zE) (L : Nat) (Q : kx_Rs → wS → Prop) (x1 : Int32) (x2 : Int32) (x3 : Int32) (x6 : Int32) (x7 : Int32) (x8 : Int32) (y0 : Int32) (y1 : Int32) (y2 : Int32) (w : wS) : Prop := zw E (L - 26) kt_M423 [.ref (w_adr E.2.1 12 0), .int y2, .int y1, .int y0] w (wk0 (fun w1 => wle w w1 → (kx_inb x8 (w_n w1 12 0 32) = true ∧ zL_X13_guards_p139 E L Q x1 x2 x3 (x6 + 4) x7 (w_a w1 12 0 32 (x8).toNatClampNeg) w1)) (fun e w => Q (.inr e) w))
theorem zt_X13_guards_p223 {E : zE} {L : Nat} {Q : kx_Rs → wS → Prop} {x1 : Int32} {x2 : Int32} {x3 : Int32} {x6 : Int32} {x7 : Int32} {x8 : Int32} {y0 : Int32} {y1 : Int32} {y2 : Int32} {w : wS} (hL : 26 ≤ L) (h : zb_X13_guards_p223 E L Q x1 x2 x3 x6 x7 x8 y0 y1 y2 w) : kzE E L kt_M424 223 [(0, .ref (w_adr E.2.1 12 0)), (1, .int x1), (2, .int x2), (3, .int x3), (6, .int x6), (7, .int x7), (8, .int x8)] [.int y0, .int y1, .int y2, .ref (w_adr E.2.1 12 0)] w Q := by
  unfold zb_X13_guards_p223 at h
  refine kz_cv0 (M := kt_M424) (c := 12) (o := 0) (As := [.int y2, .int y1, .int y0]) (rest := []) kX13_guards_c16.1 wl_X13_1469 wMv_423 rfl (.inl rfl) rfl (Nat.le_trans (Nat.le_of_ble_eq_true rfl) hL) (Nat.le_of_ble_eq_true rfl) (Nat.le_of_ble_eq_true rfl) h (fun w1 hle h => ?_) (fun _ _ _ h => kzx_no rfl h)
  have h := h hle
  refine kz_inc (M := kt_M424) [(0, .ref (w_adr E.2.1 12 0)), (1, .int x1), (2, .int x2), (3, .int x3), (7, .int x7), (8, .int x8)] kX13_guards_c16.2.1 rfl (Nat.le_of_ble_eq_true rfl) ⟨⟨rfl, rfl, .inl rfl⟩, ⟨⟨rfl, rfl, .inl rfl⟩, ⟨⟨rfl, rfl, .inl rfl⟩, ⟨⟨rfl, rfl, .inl rfl⟩, ⟨⟨rfl, rfl, .inl rfl⟩, ⟨⟨rfl, rfl, .inl rfl⟩, trivial⟩⟩⟩⟩⟩⟩ rfl ?_
  refine kz_aload_n (M := kt_M424) kX13_guards_c16.2.2.1 rfl ?_
  refine kz_gfc (M := kt_M424) (x := 4104) (c := 12) (o := 0) kX13_guards_c16.2.2.2.1 wf_X13_205 (.inl rfl) ?_
  refine kz_iload (M := kt_M424) kX13_guards_c16.2.2.2.2.1 rfl ?_
  refine kz_iald (M := kt_M424) (c := 12) (o := 0) (k := 32) (a := (E.2.1 4104)) kX13_guards_c16.2.2.2.2.2.1 ow_12_0_32 oa_12_0_32 ot_0 h (fun h => ?_)
  refine kz_sti (M := kt_M424) [(0, .ref (w_adr E.2.1 12 0)), (1, .int x1), (2, .int x2), (3, .int x3), (6, .int (x6 + 4)), (7, .int x7)] kX13_guards_c16.2.2.2.2.2.2.1 (Nat.le_of_ble_eq_true rfl) ⟨⟨rfl, rfl, .inl rfl⟩, ⟨⟨rfl, rfl, .inl rfl⟩, ⟨⟨rfl, rfl, .inl rfl⟩, ⟨⟨rfl, rfl, .inl rfl⟩, ⟨⟨rfl, rfl, .inl rfl⟩, ⟨⟨rfl, rfl, .inr rfl⟩, trivial⟩⟩⟩⟩⟩⟩ rfl ?_
  refine kz_goto (M := kt_M424) kX13_guards_c16.2.2.2.2.2.2.2.1 (t := 139) rfl ?_
  exact kz_weak [(0, .ref (w_adr E.2.1 12 0)), (1, .int x1), (2, .int x2), (3, .int x3), (6, .int (x6 + 4)), (7, .int x7), (8, .int (w_a w1 12 0 32 (x8).toNatClampNeg))] ⟨rfl, ⟨rfl, ⟨rfl, ⟨rfl, ⟨rfl, ⟨rfl, ⟨rfl, trivial⟩⟩⟩⟩⟩⟩⟩ rfl h
def zb_X13_guards_p218 (E : zE) (L : Nat) (Q : kx_Rs → wS → Prop) (x1 : Int32) (x2 : Int32) (x3 : Int32) (x6 : Int32) (x7 : Int32) (x8 : Int32) (y0 : Int32) (y1 : Int32) (w : wS) : Prop := zb_X13_guards_p223 E L Q x1 x2 x3 x6 x7 x8 1 y0 y1 w
theorem zt_X13_guards_p218 {E : zE} {L : Nat} {Q : kx_Rs → wS → Prop} {x1 : Int32} {x2 : Int32} {x3 : Int32} {x6 : Int32} {x7 : Int32} {x8 : Int32} {y0 : Int32} {y1 : Int32} {w : wS} (hL : 26 ≤ L) (h : zb_X13_guards_p218 E L Q x1 x2 x3 x6 x7 x8 y0 y1 w) : kzE E L kt_M424 218 [(0, .ref (w_adr E.2.1 12 0)), (1, .int x1), (2, .int x2), (3, .int x3), (6, .int x6), (7, .int x7), (8, .int x8)] [.int y0, .int y1, .ref (w_adr E.2.1 12 0)] w Q := by
  unfold zb_X13_guards_p218 at h
  refine kz_ic (M := kt_M424) 1 kX13_guards_c15.2.2.2.2.2.1 rfl ?_
  refine kz_goto (M := kt_M424) kX13_guards_c15.2.2.2.2.2.2.1 (t := 223) rfl ?_
  exact kz_weak [(0, .ref (w_adr E.2.1 12 0)), (1, .int x1), (2, .int x2), (3, .int x3), (6, .int x6), (7, .int x7), (8, .int x8)] ⟨rfl, ⟨rfl, ⟨rfl, ⟨rfl, ⟨rfl, ⟨rfl, ⟨rfl, trivial⟩⟩⟩⟩⟩⟩⟩ rfl (zt_X13_guards_p223 hL  h)
def zb_X13_guards_p185 (E : zE) (L : Nat) (Q : kx_Rs → wS → Prop) (x1 : Int32) (x2 : Int32) (x3 : Int32) (x6 : Int32) (x7 : Int32) (x8 : Int32) (y0 : Int32) (y1 : Int32) (w : wS) : Prop := zw E (L - 22) kt_M547 [.ref (w_adr E.2.1 12 0), .int y1, .int y0] w (wk0 (fun w1 => wle w w1 → (kx_inb x8 (w_n w1 12 0 28) = true ∧ (if w_a w1 12 0 28 (x8).toNatClampNeg < 0 then zb_X13_guards_p218 E L Q x1 x2 x3 x6 x7 x8 x6 x8 w1 else (kx_inb x8 (w_n w1 12 0 28) = true ∧ zw E (L - 25) kt_M404 [.ref (w_adr E.2.1 12 0), .int (w_a w1 12 0 28 (x8).toNatClampNeg)] w1 (wk1 (fun v4 w3 => wle w1 w3 → (if ¬ v4 = 1 then zb_X13_guards_p223 E L Q x1 x2 x3 x6 x7 x8 0 x6 x8 w3 else zb_X13_guards_p218 E L Q x1 x2 x3 x6 x7 x8 x6 x8 w3)) (fun e w => Q (.inr e) w)))))) (fun e w => Q (.inr e) w))
theorem zt_X13_guards_p185 {E : zE} {L : Nat} {Q : kx_Rs → wS → Prop} {x1 : Int32} {x2 : Int32} {x3 : Int32} {x6 : Int32} {x7 : Int32} {x8 : Int32} {y0 : Int32} {y1 : Int32} {w : wS} (hL : 26 ≤ L) (h : zb_X13_guards_p185 E L Q x1 x2 x3 x6 x7 x8 y0 y1 w) : kzE E L kt_M424 185 [(0, .ref (w_adr E.2.1 12 0)), (1, .int x1), (2, .int x2), (3, .int x3), (6, .int x6), (7, .int x7), (8, .int x8)] [.int y0, .int y1, .ref (w_adr E.2.1 12 0)] w Q := by
  unfold zb_X13_guards_p185 at h
  refine kz_cv0 (M := kt_M424) (c := 12) (o := 0) (As := [.int y1, .int y0]) (rest := []) kX13_guards_c13.2.2.2.2.1 wl_X13_1140 wMv_547 rfl (.inl rfl) rfl (Nat.le_trans (Nat.le_of_ble_eq_true rfl) hL) (Nat.le_of_ble_eq_true rfl) (Nat.le_of_ble_eq_true rfl) h (fun w1 hle h => ?_) (fun _ _ _ h => kzx_no rfl h)
  have h := h hle
  refine kz_aload_n (M := kt_M424) kX13_guards_c13.2.2.2.2.2.1 rfl ?_
  refine kz_iload (M := kt_M424) kX13_guards_c13.2.2.2.2.2.2.1 rfl ?_
  refine kz_iload (M := kt_M424) kX13_guards_c13.2.2.2.2.2.2.2.1 rfl ?_
  refine kz_aload_n (M := kt_M424) kX13_guards_c14.1 rfl ?_
  refine kz_gfc (M := kt_M424) (x := 4100) (c := 12) (o := 0) kX13_guards_c14.2.1 wf_X13_193 (.inl rfl) ?_
  refine kz_iload (M := kt_M424) kX13_guards_c14.2.2.1 rfl ?_
  refine kz_iald (M := kt_M424) (c := 12) (o := 0) (k := 28) (a := (E.2.1 4100)) kX13_guards_c14.2.2.2.1 ow_12_0_28 oa_12_0_28 ot_0 h (fun h => ?_)
  refine kz_if_lt (M := kt_M424) kX13_guards_c14.2.2.2.2.1 (t := 218) rfl h (fun h => ?_) (fun h => ?_)
  · skip
    exact kz_weak [(0, .ref (w_adr E.2.1 12 0)), (1, .int x1), (2, .int x2), (3, .int x3), (6, .int x6), (7, .int x7), (8, .int x8)] ⟨rfl, ⟨rfl, ⟨rfl, ⟨rfl, ⟨rfl, ⟨rfl, ⟨rfl, trivial⟩⟩⟩⟩⟩⟩⟩ rfl (zt_X13_guards_p218 hL  h)
  · skip
    refine kz_aload_n (M := kt_M424) kX13_guards_c14.2.2.2.2.2.1 rfl ?_
    refine kz_aload_n (M := kt_M424) kX13_guards_c14.2.2.2.2.2.2.1 rfl ?_
    refine kz_gfc (M := kt_M424) (x := 4100) (c := 12) (o := 0) kX13_guards_c14.2.2.2.2.2.2.2.1 wf_X13_193 (.inl rfl) ?_
    refine kz_iload (M := kt_M424) kX13_guards_c15.1 rfl ?_
    refine kz_iald (M := kt_M424) (c := 12) (o := 0) (k := 28) (a := (E.2.1 4100)) kX13_guards_c15.2.1 ow_12_0_28 oa_12_0_28 ot_0 h (fun h => ?_)
    refine kz_cv1 (M := kt_M424) (c := 12) (o := 0) (As := [.int (w_a w1 12 0 28 (x8).toNatClampNeg)]) (rest := [.int x6, .int x8, .ref (w_adr E.2.1 12 0)]) kX13_guards_c15.2.2.1 wl_X13_1207 wMv_404 rfl (.inl rfl) rfl (Nat.le_trans (Nat.le_of_ble_eq_true rfl) hL) (Nat.le_of_ble_eq_true rfl) (Nat.le_of_ble_eq_true rfl) h (fun v4 w3 hle h => ?_) (fun _ _ _ h => kzx_no rfl h)
    have h := h hle
    refine kz_ic (M := kt_M424) 1 kX13_guards_c15.2.2.2.1 rfl ?_
    refine kz_icmp_ne (M := kt_M424) kX13_guards_c15.2.2.2.2.1 (t := 222) rfl h (fun h => ?_) (fun h => ?_)
    · skip
      refine kz_ic (M := kt_M424) 0 kX13_guards_c15.2.2.2.2.2.2.2.1 rfl ?_
      exact kz_weak [(0, .ref (w_adr E.2.1 12 0)), (1, .int x1), (2, .int x2), (3, .int x3), (6, .int x6), (7, .int x7), (8, .int x8)] ⟨rfl, ⟨rfl, ⟨rfl, ⟨rfl, ⟨rfl, ⟨rfl, ⟨rfl, trivial⟩⟩⟩⟩⟩⟩⟩ rfl (zt_X13_guards_p223 hL  h)
    · skip
      exact kz_weak [(0, .ref (w_adr E.2.1 12 0)), (1, .int x1), (2, .int x2), (3, .int x3), (6, .int x6), (7, .int x7), (8, .int x8)] ⟨rfl, ⟨rfl, ⟨rfl, ⟨rfl, ⟨rfl, ⟨rfl, ⟨rfl, trivial⟩⟩⟩⟩⟩⟩⟩ rfl (zt_X13_guards_p218 hL  h)
def zb_X13_guards_p139 (E : zE) (L : Nat) (Q : kx_Rs → wS → Prop) (x1 : Int32) (x2 : Int32) (x3 : Int32) (x6 : Int32) (x7 : Int32) (x8 : Int32) (w : wS) : Prop := (if x8 < 0 then zL_X13_guards_p98 E L Q x1 x2 x3 x6 (x7 + 1) w else (kx_inb x8 (w_n w 12 0 27) = true ∧ zw E (L - 22) kt_M547 [.ref (w_adr E.2.1 12 0), .int x6, .int x8] (ws_i w 12 0 164 (w_a w 12 0 27 (x8).toNatClampNeg)) (wk0 (fun w1 => wle (ws_i w 12 0 164 (w_a w 12 0 27 (x8).toNatClampNeg)) w1 → (if 0 ≤ x2 then (kx_inb x2 (w_n w1 12 0 77) = true ∧ zb_X13_guards_p185 E L Q x1 x2 x3 x6 x7 x8 ((w_a w1 12 0 77 (x2).toNatClampNeg) + x7) (x6 + 1) w1) else zb_X13_guards_p185 E L Q x1 x2 x3 x6 x7 x8 0 (x6 + 1) w1)) (fun e w => Q (.inr e) w))))
theorem zt_X13_guards_p139 {E : zE} {L : Nat} {Q : kx_Rs → wS → Prop} {x1 : Int32} {x2 : Int32} {x3 : Int32} {x6 : Int32} {x7 : Int32} {x8 : Int32} {w : wS} (hL : 26 ≤ L) (h : zb_X13_guards_p139 E L Q x1 x2 x3 x6 x7 x8 w) : kzE E L kt_M424 139 [(0, .ref (w_adr E.2.1 12 0)), (1, .int x1), (2, .int x2), (3, .int x3), (6, .int x6), (7, .int x7), (8, .int x8)] [] w Q := by
  unfold zb_X13_guards_p139 at h
  refine kz_iload (M := kt_M424) kX13_guards_c10.2.2.1 rfl ?_
  refine kz_if_lt (M := kt_M424) kX13_guards_c10.2.2.2.1 (t := 241) rfl h (fun h => ?_) (fun h => ?_)
  · skip
    refine kz_inc (M := kt_M424) [(0, .ref (w_adr E.2.1 12 0)), (1, .int x1), (2, .int x2), (3, .int x3), (6, .int x6)] kX13_guards_c17.1 rfl (Nat.le_of_ble_eq_true rfl) ⟨⟨rfl, rfl, .inl rfl⟩, ⟨⟨rfl, rfl, .inl rfl⟩, ⟨⟨rfl, rfl, .inl rfl⟩, ⟨⟨rfl, rfl, .inl rfl⟩, ⟨⟨rfl, rfl, .inr rfl⟩, trivial⟩⟩⟩⟩⟩ rfl ?_
    refine kz_goto (M := kt_M424) kX13_guards_c17.2.1 (t := 98) rfl ?_
    exact kz_weak [(0, .ref (w_adr E.2.1 12 0)), (1, .int x1), (2, .int x2), (3, .int x3), (6, .int x6), (7, .int (x7 + 1))] ⟨rfl, ⟨rfl, ⟨rfl, ⟨rfl, ⟨rfl, ⟨rfl, trivial⟩⟩⟩⟩⟩⟩ rfl h
  · skip
    refine kz_aload_n (M := kt_M424) kX13_guards_c10.2.2.2.2.1 rfl ?_
    refine kz_aload_n (M := kt_M424) kX13_guards_c10.2.2.2.2.2.1 rfl ?_
    refine kz_gfc (M := kt_M424) (x := 4099) (c := 12) (o := 0) kX13_guards_c10.2.2.2.2.2.2.1 wf_X13_190 (.inl rfl) ?_
    refine kz_iload (M := kt_M424) kX13_guards_c10.2.2.2.2.2.2.2.1 rfl ?_
    refine kz_iald (M := kt_M424) (c := 12) (o := 0) (k := 27) (a := (E.2.1 4099)) kX13_guards_c11.1 ow_12_0_27 oa_12_0_27 ot_0 h (fun h => ?_)
    refine kz_pfi (M := kt_M424) (c := 12) (o := 0) kX13_guards_c11.2.1 wq_X13_1302 (.inl rfl) ?_
    refine kz_aload_n (M := kt_M424) kX13_guards_c11.2.2.1 rfl ?_
    refine kz_iload (M := kt_M424) kX13_guards_c11.2.2.2.1 rfl ?_
    refine kz_iload (M := kt_M424) kX13_guards_c11.2.2.2.2.1 rfl ?_
    refine kz_cv0 (M := kt_M424) (c := 12) (o := 0) (As := [.int x6, .int x8]) (rest := []) kX13_guards_c11.2.2.2.2.2.1 wl_X13_1140 wMv_547 rfl (.inl rfl) rfl (Nat.le_trans (Nat.le_of_ble_eq_true rfl) hL) (Nat.le_of_ble_eq_true rfl) (Nat.le_of_ble_eq_true rfl) h (fun w1 hle h => ?_) (fun _ _ _ h => kzx_no rfl h)
    have h := h hle
    refine kz_aload_n (M := kt_M424) kX13_guards_c11.2.2.2.2.2.2.1 rfl ?_
    refine kz_iload (M := kt_M424) kX13_guards_c11.2.2.2.2.2.2.2.1 rfl ?_
    refine kz_ic (M := kt_M424) 1 kX13_guards_c12.1 rfl ?_
    refine kz_iadd (M := kt_M424) kX13_guards_c12.2.1 ?_
    refine kz_iload_n (M := kt_M424) kX13_guards_c12.2.2.1 rfl ?_
    refine kz_if_ge (M := kt_M424) kX13_guards_c12.2.2.2.1 (t := 176) rfl h (fun h => ?_) (fun h => ?_)
    · skip
      refine kz_aload_n (M := kt_M424) kX13_guards_c12.2.2.2.2.2.2.1 rfl ?_
      refine kz_gfc (M := kt_M424) (x := 4149) (c := 12) (o := 0) kX13_guards_c12.2.2.2.2.2.2.2.1 wf_X13_288 (.inl rfl) ?_
      refine kz_iload_n (M := kt_M424) kX13_guards_c13.1 rfl ?_
      refine kz_iald (M := kt_M424) (c := 12) (o := 0) (k := 77) (a := (E.2.1 4149)) kX13_guards_c13.2.1 ow_12_0_77 oa_12_0_77 ot_0 h (fun h => ?_)
      refine kz_iload (M := kt_M424) kX13_guards_c13.2.2.1 rfl ?_
      refine kz_iadd (M := kt_M424) kX13_guards_c13.2.2.2.1 ?_
      exact kz_weak [(0, .ref (w_adr E.2.1 12 0)), (1, .int x1), (2, .int x2), (3, .int x3), (6, .int x6), (7, .int x7), (8, .int x8)] ⟨rfl, ⟨rfl, ⟨rfl, ⟨rfl, ⟨rfl, ⟨rfl, ⟨rfl, trivial⟩⟩⟩⟩⟩⟩⟩ rfl (zt_X13_guards_p185 hL  h)
    · skip
      refine kz_ic (M := kt_M424) 0 kX13_guards_c12.2.2.2.2.1 rfl ?_
      refine kz_goto (M := kt_M424) kX13_guards_c12.2.2.2.2.2.1 (t := 185) rfl ?_
      exact kz_weak [(0, .ref (w_adr E.2.1 12 0)), (1, .int x1), (2, .int x2), (3, .int x3), (6, .int x6), (7, .int x7), (8, .int x8)] ⟨rfl, ⟨rfl, ⟨rfl, ⟨rfl, ⟨rfl, ⟨rfl, ⟨rfl, trivial⟩⟩⟩⟩⟩⟩⟩ rfl (zt_X13_guards_p185 hL  h)
def zb_X13_guards_p131 (E : zE) (L : Nat) (Q : kx_Rs → wS → Prop) (x1 : Int32) (x2 : Int32) (x3 : Int32) (x6 : Int32) (x7 : Int32) (w : wS) : Prop := (kx_inb x1 (w_n w 12 0 29) = true ∧ zL_X13_guards_p139 E L Q x1 x2 x3 x6 x7 (w_a w 12 0 29 (x1).toNatClampNeg) w)
theorem zt_X13_guards_p131 {E : zE} {L : Nat} {Q : kx_Rs → wS → Prop} {x1 : Int32} {x2 : Int32} {x3 : Int32} {x6 : Int32} {x7 : Int32} {w : wS} (hL : 26 ≤ L) (h : zb_X13_guards_p131 E L Q x1 x2 x3 x6 x7 w) : kzE E L kt_M424 131 [(0, .ref (w_adr E.2.1 12 0)), (1, .int x1), (2, .int x2), (3, .int x3), (6, .int x6), (7, .int x7)] [] w Q := by
  unfold zb_X13_guards_p131 at h
  refine kz_aload_n (M := kt_M424) kX13_guards_c9.2.2.2.2.2.1 rfl ?_
  refine kz_gfc (M := kt_M424) (x := 4101) (c := 12) (o := 0) kX13_guards_c9.2.2.2.2.2.2.1 wf_X13_196 (.inl rfl) ?_
  refine kz_iload_n (M := kt_M424) kX13_guards_c9.2.2.2.2.2.2.2.1 rfl ?_
  refine kz_iald (M := kt_M424) (c := 12) (o := 0) (k := 29) (a := (E.2.1 4101)) kX13_guards_c10.1 ow_12_0_29 oa_12_0_29 ot_0 h (fun h => ?_)
  refine kz_sti (M := kt_M424) [(0, .ref (w_adr E.2.1 12 0)), (1, .int x1), (2, .int x2), (3, .int x3), (6, .int x6), (7, .int x7)] kX13_guards_c10.2.1 (Nat.le_of_ble_eq_true rfl) ⟨⟨rfl, rfl, .inl rfl⟩, ⟨⟨rfl, rfl, .inl rfl⟩, ⟨⟨rfl, rfl, .inl rfl⟩, ⟨⟨rfl, rfl, .inl rfl⟩, ⟨⟨rfl, rfl, .inl rfl⟩, ⟨⟨rfl, rfl, .inr rfl⟩, trivial⟩⟩⟩⟩⟩⟩ rfl ?_
  exact kz_weak [(0, .ref (w_adr E.2.1 12 0)), (1, .int x1), (2, .int x2), (3, .int x3), (6, .int x6), (7, .int x7), (8, .int (w_a w 12 0 29 (x1).toNatClampNeg))] ⟨rfl, ⟨rfl, ⟨rfl, ⟨rfl, ⟨rfl, ⟨rfl, ⟨rfl, trivial⟩⟩⟩⟩⟩⟩⟩ rfl h
def zb_X13_guards_p98 (E : zE) (L : Nat) (Q : kx_Rs → wS → Prop) (x1 : Int32) (x2 : Int32) (x3 : Int32) (x6 : Int32) (x7 : Int32) (w : wS) : Prop := (if x3 ≤ x7 then Q (.inl none) w else (if x2 < 0 then zb_X13_guards_p131 E L Q x1 x2 x3 x6 x7 w else (kx_inb x2 (w_n w 12 0 31) = true ∧ zw E (L - 21) kt_M540 [.ref (w_adr E.2.1 12 0), .int (w_a w 12 0 31 (x2).toNatClampNeg)] w (wk1 (fun v2 w1 => wle w w1 → (kx_inb x2 (w_n w1 12 0 77) = true ∧ zw E (L - 22) kt_M547 [.ref (w_adr E.2.1 12 0), .int v2, .int ((w_a w1 12 0 77 (x2).toNatClampNeg) + x7)] w1 (wk0 (fun w3 => wle w1 w3 → zb_X13_guards_p131 E L Q x1 x2 x3 x6 x7 w3) (fun e w => Q (.inr e) w)))) (fun e w => Q (.inr e) w)))))
theorem zt_X13_guards_p98 {E : zE} {L : Nat} {Q : kx_Rs → wS → Prop} {x1 : Int32} {x2 : Int32} {x3 : Int32} {x6 : Int32} {x7 : Int32} {w : wS} (hL : 26 ≤ L) (h : zb_X13_guards_p98 E L Q x1 x2 x3 x6 x7 w) : kzE E L kt_M424 98 [(0, .ref (w_adr E.2.1 12 0)), (1, .int x1), (2, .int x2), (3, .int x3), (6, .int x6), (7, .int x7)] [] w Q := by
  unfold zb_X13_guards_p98 at h
  refine kz_iload (M := kt_M424) kX13_guards_c7.2.2.1 rfl ?_
  refine kz_iload_n (M := kt_M424) kX13_guards_c7.2.2.2.1 rfl ?_
  refine kz_icmp_ge (M := kt_M424) kX13_guards_c7.2.2.2.2.1 (t := 247) rfl h (fun h => ?_) (fun h => ?_)
  · skip
    exact kz_ret (M := kt_M424) kX13_guards_c17.2.2.1 rfl h
  · skip
    refine kz_iload_n (M := kt_M424) kX13_guards_c7.2.2.2.2.2.1 rfl ?_
    refine kz_if_lt (M := kt_M424) kX13_guards_c7.2.2.2.2.2.2.1 (t := 131) rfl h (fun h => ?_) (fun h => ?_)
    · skip
      exact kz_weak [(0, .ref (w_adr E.2.1 12 0)), (1, .int x1), (2, .int x2), (3, .int x3), (6, .int x6), (7, .int x7)] ⟨rfl, ⟨rfl, ⟨rfl, ⟨rfl, ⟨rfl, ⟨rfl, trivial⟩⟩⟩⟩⟩⟩ rfl (zt_X13_guards_p131 hL  h)
    · skip
      refine kz_aload_n (M := kt_M424) kX13_guards_c7.2.2.2.2.2.2.2.1 rfl ?_
      refine kz_aload_n (M := kt_M424) kX13_guards_c8.1 rfl ?_
      refine kz_aload_n (M := kt_M424) kX13_guards_c8.2.1 rfl ?_
      refine kz_gfc (M := kt_M424) (x := 4103) (c := 12) (o := 0) kX13_guards_c8.2.2.1 wf_X13_202 (.inl rfl) ?_
      refine kz_iload_n (M := kt_M424) kX13_guards_c8.2.2.2.1 rfl ?_
      refine kz_iald (M := kt_M424) (c := 12) (o := 0) (k := 31) (a := (E.2.1 4103)) kX13_guards_c8.2.2.2.2.1 ow_12_0_31 oa_12_0_31 ot_0 h (fun h => ?_)
      refine kz_cv1 (M := kt_M424) (c := 12) (o := 0) (As := [.int (w_a w 12 0 31 (x2).toNatClampNeg)]) (rest := [.ref (w_adr E.2.1 12 0)]) kX13_guards_c8.2.2.2.2.2.1 wl_X13_1210 wMv_540 rfl (.inl rfl) rfl (Nat.le_trans (Nat.le_of_ble_eq_true rfl) hL) (Nat.le_of_ble_eq_true rfl) (Nat.le_of_ble_eq_true rfl) h (fun v2 w1 hle h => ?_) (fun _ _ _ h => kzx_no rfl h)
      have h := h hle
      refine kz_aload_n (M := kt_M424) kX13_guards_c8.2.2.2.2.2.2.1 rfl ?_
      refine kz_gfc (M := kt_M424) (x := 4149) (c := 12) (o := 0) kX13_guards_c8.2.2.2.2.2.2.2.1 wf_X13_288 (.inl rfl) ?_
      refine kz_iload_n (M := kt_M424) kX13_guards_c9.1 rfl ?_
      refine kz_iald (M := kt_M424) (c := 12) (o := 0) (k := 77) (a := (E.2.1 4149)) kX13_guards_c9.2.1 ow_12_0_77 oa_12_0_77 ot_0 h (fun h => ?_)
      refine kz_iload (M := kt_M424) kX13_guards_c9.2.2.1 rfl ?_
      refine kz_iadd (M := kt_M424) kX13_guards_c9.2.2.2.1 ?_
      refine kz_cv0 (M := kt_M424) (c := 12) (o := 0) (As := [.int v2, .int ((w_a w1 12 0 77 (x2).toNatClampNeg) + x7)]) (rest := []) kX13_guards_c9.2.2.2.2.1 wl_X13_1140 wMv_547 rfl (.inl rfl) rfl (Nat.le_trans (Nat.le_of_ble_eq_true rfl) hL) (Nat.le_of_ble_eq_true rfl) (Nat.le_of_ble_eq_true rfl) h (fun w3 hle h => ?_) (fun _ _ _ h => kzx_no rfl h)
      have h := h hle
      exact kz_weak [(0, .ref (w_adr E.2.1 12 0)), (1, .int x1), (2, .int x2), (3, .int x3), (6, .int x6), (7, .int x7)] ⟨rfl, ⟨rfl, ⟨rfl, ⟨rfl, ⟨rfl, ⟨rfl, trivial⟩⟩⟩⟩⟩⟩ rfl (zt_X13_guards_p131 hL  h)
def zb_X13_guards_p33 (E : zE) (L : Nat) (Q : kx_Rs → wS → Prop) (x1 : Int32) (x2 : Int32) (x3 : Int32) (x4 : Int32) (x5 : Int32) (w : wS) : Prop := (if x5 < 0 then zw E (L - 23) kt_M524 [.ref (w_adr E.2.1 12 0), .int ((4 * x4) * x3)] w (wk1 (fun v2 w1 => wle w w1 → (kx_inb (w_i w1 12 0 161) (w_n w1 12 0 157) = true ∧ (kx_inb (w_i w1 12 0 161) (w_n w1 12 0 158) = true ∧ zL_X13_guards_p98 E L Q x1 x2 x3 v2 0 (ws_a (ws_a w1 12 0 157 (w_i w1 12 0 161).toNatClampNeg v2) 12 0 158 (w_i w1 12 0 161).toNatClampNeg ((4 * x4) * x3))))) (fun e w => Q (.inr e) w)) else (kx_inb x5 (w_n w 12 0 32) = true ∧ zL_X13_guards_p33 E L Q x1 x2 x3 (x4 + 1) (w_a w 12 0 32 (x5).toNatClampNeg) w))
theorem zt_X13_guards_p33 {E : zE} {L : Nat} {Q : kx_Rs → wS → Prop} {x1 : Int32} {x2 : Int32} {x3 : Int32} {x4 : Int32} {x5 : Int32} {w : wS} (hL : 26 ≤ L) (h : zb_X13_guards_p33 E L Q x1 x2 x3 x4 x5 w) : kzE E L kt_M424 33 [(0, .ref (w_adr E.2.1 12 0)), (1, .int x1), (2, .int x2), (3, .int x3), (4, .int x4), (5, .int x5)] [] w Q := by
  unfold zb_X13_guards_p33 at h
  refine kz_iload (M := kt_M424) kX13_guards_c2.2.2.2.2.2.1 rfl ?_
  refine kz_if_lt (M := kt_M424) kX13_guards_c2.2.2.2.2.2.2.1 (t := 53) rfl h (fun h => ?_) (fun h => ?_)
  · skip
    refine kz_aload_n (M := kt_M424) kX13_guards_c3.2.2.2.2.2.2.1 rfl ?_
    refine kz_ic (M := kt_M424) 4 kX13_guards_c3.2.2.2.2.2.2.2.1 rfl ?_
    refine kz_iload (M := kt_M424) kX13_guards_c4.1 rfl ?_
    refine kz_imul (M := kt_M424) kX13_guards_c4.2.1 ?_
    refine kz_iload_n (M := kt_M424) kX13_guards_c4.2.2.1 rfl ?_
    refine kz_imul (M := kt_M424) kX13_guards_c4.2.2.2.1 ?_
    refine kz_cv1 (M := kt_M424) (c := 12) (o := 0) (As := [.int ((4 * x4) * x3)]) (rest := []) kX13_guards_c4.2.2.2.2.1 wl_X13_1174 wMv_524 rfl (.inl rfl) rfl (Nat.le_trans (Nat.le_of_ble_eq_true rfl) hL) (Nat.le_of_ble_eq_true rfl) (Nat.le_of_ble_eq_true rfl) h (fun v2 w1 hle h => ?_) (fun _ _ _ h => kzx_no rfl h)
    have h := h hle
    refine kz_sti (M := kt_M424) [(0, .ref (w_adr E.2.1 12 0)), (1, .int x1), (2, .int x2), (3, .int x3), (4, .int x4)] kX13_guards_c4.2.2.2.2.2.1 (Nat.le_of_ble_eq_true rfl) ⟨⟨rfl, rfl, .inl rfl⟩, ⟨⟨rfl, rfl, .inl rfl⟩, ⟨⟨rfl, rfl, .inl rfl⟩, ⟨⟨rfl, rfl, .inl rfl⟩, ⟨⟨rfl, rfl, .inr rfl⟩, trivial⟩⟩⟩⟩⟩ rfl ?_
    refine kz_aload_n (M := kt_M424) kX13_guards_c4.2.2.2.2.2.2.1 rfl ?_
    refine kz_gfc (M := kt_M424) (x := 4229) (c := 12) (o := 0) kX13_guards_c4.2.2.2.2.2.2.2.1 wf_X13_424 (.inl rfl) ?_
    refine kz_aload_n (M := kt_M424) kX13_guards_c5.1 rfl ?_
    refine kz_gfi (M := kt_M424) (c := 12) (o := 0) kX13_guards_c5.2.1 wf_X13_1168 (.inl rfl) ?_
    refine kz_iload (M := kt_M424) kX13_guards_c5.2.2.1 rfl ?_
    refine kz_iast (M := kt_M424) (c := 12) (o := 0) (k := 157) (a := (E.2.1 4229)) kX13_guards_c5.2.2.2.1 ow_12_0_157 oa_12_0_157 ot_0 h (fun h => ?_)
    refine kz_aload_n (M := kt_M424) kX13_guards_c5.2.2.2.2.1 rfl ?_
    refine kz_gfc (M := kt_M424) (x := 4230) (c := 12) (o := 0) kX13_guards_c5.2.2.2.2.2.1 wf_X13_427 (.inl rfl) ?_
    refine kz_aload_n (M := kt_M424) kX13_guards_c5.2.2.2.2.2.2.1 rfl ?_
    refine kz_gfiR (M := kt_M424) (c := 12) (o := 0) (w_i w1 12 0 161) kX13_guards_c5.2.2.2.2.2.2.2.1 wf_X13_1168 (.inl rfl) rd_i_a ?_
    refine kz_ic (M := kt_M424) 4 kX13_guards_c6.1 rfl ?_
    refine kz_iload (M := kt_M424) kX13_guards_c6.2.1 rfl ?_
    refine kz_imul (M := kt_M424) kX13_guards_c6.2.2.1 ?_
    refine kz_iload_n (M := kt_M424) kX13_guards_c6.2.2.2.1 rfl ?_
    refine kz_imul (M := kt_M424) kX13_guards_c6.2.2.2.2.1 ?_
    refine kz_iastR (M := kt_M424) (n := w_n w1 12 0 158) (c := 12) (o := 0) (k := 158) (a := (E.2.1 4230)) kX13_guards_c6.2.2.2.2.2.1 ow_12_0_158 oa_12_0_158 ot_0 rd_n_a h (fun h => ?_)
    refine kz_iload (M := kt_M424) kX13_guards_c6.2.2.2.2.2.2.1 rfl ?_
    refine kz_sti (M := kt_M424) [(0, .ref (w_adr E.2.1 12 0)), (1, .int x1), (2, .int x2), (3, .int x3)] kX13_guards_c6.2.2.2.2.2.2.2.1 (Nat.le_of_ble_eq_true rfl) ⟨⟨rfl, rfl, .inl rfl⟩, ⟨⟨rfl, rfl, .inl rfl⟩, ⟨⟨rfl, rfl, .inl rfl⟩, ⟨⟨rfl, rfl, .inl rfl⟩, trivial⟩⟩⟩⟩ rfl ?_
    refine kz_ic (M := kt_M424) 0 kX13_guards_c7.1 rfl ?_
    refine kz_sti (M := kt_M424) [(0, .ref (w_adr E.2.1 12 0)), (1, .int x1), (2, .int x2), (3, .int x3), (6, .int v2)] kX13_guards_c7.2.1 (Nat.le_of_ble_eq_true rfl) ⟨⟨rfl, rfl, .inl rfl⟩, ⟨⟨rfl, rfl, .inl rfl⟩, ⟨⟨rfl, rfl, .inl rfl⟩, ⟨⟨rfl, rfl, .inl rfl⟩, ⟨⟨rfl, rfl, .inr rfl⟩, trivial⟩⟩⟩⟩⟩ rfl ?_
    exact kz_weak [(0, .ref (w_adr E.2.1 12 0)), (1, .int x1), (2, .int x2), (3, .int x3), (6, .int v2), (7, .int 0)] ⟨rfl, ⟨rfl, ⟨rfl, ⟨rfl, ⟨rfl, ⟨rfl, trivial⟩⟩⟩⟩⟩⟩ rfl h
  · skip
    refine kz_inc (M := kt_M424) [(0, .ref (w_adr E.2.1 12 0)), (1, .int x1), (2, .int x2), (3, .int x3), (5, .int x5)] kX13_guards_c2.2.2.2.2.2.2.2.1 rfl (Nat.le_of_ble_eq_true rfl) ⟨⟨rfl, rfl, .inl rfl⟩, ⟨⟨rfl, rfl, .inl rfl⟩, ⟨⟨rfl, rfl, .inl rfl⟩, ⟨⟨rfl, rfl, .inr rfl⟩, ⟨⟨rfl, rfl, .inl rfl⟩, trivial⟩⟩⟩⟩⟩ rfl ?_
    refine kz_aload_n (M := kt_M424) kX13_guards_c3.1 rfl ?_
    refine kz_gfc (M := kt_M424) (x := 4104) (c := 12) (o := 0) kX13_guards_c3.2.1 wf_X13_205 (.inl rfl) ?_
    refine kz_iload (M := kt_M424) kX13_guards_c3.2.2.1 rfl ?_
    refine kz_iald (M := kt_M424) (c := 12) (o := 0) (k := 32) (a := (E.2.1 4104)) kX13_guards_c3.2.2.2.1 ow_12_0_32 oa_12_0_32 ot_0 h (fun h => ?_)
    refine kz_sti (M := kt_M424) [(0, .ref (w_adr E.2.1 12 0)), (1, .int x1), (2, .int x2), (3, .int x3), (4, .int (x4 + 1))] kX13_guards_c3.2.2.2.2.1 (Nat.le_of_ble_eq_true rfl) ⟨⟨rfl, rfl, .inl rfl⟩, ⟨⟨rfl, rfl, .inl rfl⟩, ⟨⟨rfl, rfl, .inl rfl⟩, ⟨⟨rfl, rfl, .inl rfl⟩, ⟨⟨rfl, rfl, .inr rfl⟩, trivial⟩⟩⟩⟩⟩ rfl ?_
    refine kz_goto (M := kt_M424) kX13_guards_c3.2.2.2.2.2.1 (t := 33) rfl ?_
    exact kz_weak [(0, .ref (w_adr E.2.1 12 0)), (1, .int x1), (2, .int x2), (3, .int x3), (4, .int (x4 + 1)), (5, .int (w_a w 12 0 32 (x5).toNatClampNeg))] ⟨rfl, ⟨rfl, ⟨rfl, ⟨rfl, ⟨rfl, ⟨rfl, trivial⟩⟩⟩⟩⟩⟩ rfl h
def zb_X13_guards_p21 (E : zE) (L : Nat) (Q : kx_Rs → wS → Prop) (x1 : Int32) (x2 : Int32) (y0 : Int32) (w : wS) : Prop := (kx_inb x1 (w_n w 12 0 29) = true ∧ zL_X13_guards_p33 E L Q x1 x2 y0 0 (w_a w 12 0 29 (x1).toNatClampNeg) w)
theorem zt_X13_guards_p21 {E : zE} {L : Nat} {Q : kx_Rs → wS → Prop} {x1 : Int32} {x2 : Int32} {y0 : Int32} {w : wS} (hL : 26 ≤ L) (h : zb_X13_guards_p21 E L Q x1 x2 y0 w) : kzE E L kt_M424 21 [(0, .ref (w_adr E.2.1 12 0)), (1, .int x1), (2, .int x2)] [.int y0] w Q := by
  unfold zb_X13_guards_p21 at h
  refine kz_sti_n (M := kt_M424) [(0, .ref (w_adr E.2.1 12 0)), (1, .int x1), (2, .int x2)] kX13_guards_c1.2.2.2.2.2.1 (Nat.le_of_ble_eq_true rfl) ⟨⟨rfl, rfl, .inl rfl⟩, ⟨⟨rfl, rfl, .inl rfl⟩, ⟨⟨rfl, rfl, .inr rfl⟩, trivial⟩⟩⟩ rfl ?_
  refine kz_ic (M := kt_M424) 0 kX13_guards_c1.2.2.2.2.2.2.1 rfl ?_
  refine kz_sti (M := kt_M424) [(0, .ref (w_adr E.2.1 12 0)), (1, .int x1), (2, .int x2), (3, .int y0)] kX13_guards_c1.2.2.2.2.2.2.2.1 (Nat.le_of_ble_eq_true rfl) ⟨⟨rfl, rfl, .inl rfl⟩, ⟨⟨rfl, rfl, .inl rfl⟩, ⟨⟨rfl, rfl, .inl rfl⟩, ⟨⟨rfl, rfl, .inr rfl⟩, trivial⟩⟩⟩⟩ rfl ?_
  refine kz_aload_n (M := kt_M424) kX13_guards_c2.1 rfl ?_
  refine kz_gfc (M := kt_M424) (x := 4101) (c := 12) (o := 0) kX13_guards_c2.2.1 wf_X13_196 (.inl rfl) ?_
  refine kz_iload_n (M := kt_M424) kX13_guards_c2.2.2.1 rfl ?_
  refine kz_iald (M := kt_M424) (c := 12) (o := 0) (k := 29) (a := (E.2.1 4101)) kX13_guards_c2.2.2.2.1 ow_12_0_29 oa_12_0_29 ot_0 h (fun h => ?_)
  refine kz_sti (M := kt_M424) [(0, .ref (w_adr E.2.1 12 0)), (1, .int x1), (2, .int x2), (3, .int y0), (4, .int 0)] kX13_guards_c2.2.2.2.2.1 (Nat.le_of_ble_eq_true rfl) ⟨⟨rfl, rfl, .inl rfl⟩, ⟨⟨rfl, rfl, .inl rfl⟩, ⟨⟨rfl, rfl, .inl rfl⟩, ⟨⟨rfl, rfl, .inl rfl⟩, ⟨⟨rfl, rfl, .inr rfl⟩, trivial⟩⟩⟩⟩⟩ rfl ?_
  exact kz_weak [(0, .ref (w_adr E.2.1 12 0)), (1, .int x1), (2, .int x2), (3, .int y0), (4, .int 0), (5, .int (w_a w 12 0 29 (x1).toNatClampNeg))] ⟨rfl, ⟨rfl, ⟨rfl, ⟨rfl, ⟨rfl, ⟨rfl, trivial⟩⟩⟩⟩⟩⟩ rfl h
def zb_X13_guards_p0 (E : zE) (L : Nat) (Q : kx_Rs → wS → Prop) (x1 : Int32) (w : wS) : Prop := (kx_inb x1 (w_n w 12 0 28) = true ∧ (if 0 ≤ w_a w 12 0 28 (x1).toNatClampNeg then (kx_inb (w_a w 12 0 28 (x1).toNatClampNeg) (w_n w 12 0 78) = true ∧ zb_X13_guards_p21 E L Q x1 (w_a w 12 0 28 (x1).toNatClampNeg) (w_a w 12 0 78 (w_a w 12 0 28 (x1).toNatClampNeg).toNatClampNeg) w) else zb_X13_guards_p21 E L Q x1 (w_a w 12 0 28 (x1).toNatClampNeg) 1 w))
theorem zt_X13_guards_p0 {E : zE} {L : Nat} {Q : kx_Rs → wS → Prop} {x1 : Int32} {w : wS} (hL : 26 ≤ L) (h : zb_X13_guards_p0 E L Q x1 w) : kzE E L kt_M424 0 [(0, .ref (w_adr E.2.1 12 0)), (1, .int x1)] [] w Q := by
  unfold zb_X13_guards_p0 at h
  refine kz_aload_n (M := kt_M424) kX13_guards_c0.1 rfl ?_
  refine kz_gfc (M := kt_M424) (x := 4100) (c := 12) (o := 0) kX13_guards_c0.2.1 wf_X13_193 (.inl rfl) ?_
  refine kz_iload_n (M := kt_M424) kX13_guards_c0.2.2.1 rfl ?_
  refine kz_iald (M := kt_M424) (c := 12) (o := 0) (k := 28) (a := (E.2.1 4100)) kX13_guards_c0.2.2.2.1 ow_12_0_28 oa_12_0_28 ot_0 h (fun h => ?_)
  refine kz_sti_n (M := kt_M424) [(0, .ref (w_adr E.2.1 12 0)), (1, .int x1)] kX13_guards_c0.2.2.2.2.1 (Nat.le_of_ble_eq_true rfl) ⟨⟨rfl, rfl, .inl rfl⟩, ⟨⟨rfl, rfl, .inr rfl⟩, trivial⟩⟩ rfl ?_
  refine kz_iload_n (M := kt_M424) kX13_guards_c0.2.2.2.2.2.1 rfl ?_
  refine kz_if_ge (M := kt_M424) kX13_guards_c0.2.2.2.2.2.2.1 (t := 15) rfl h (fun h => ?_) (fun h => ?_)
  · skip
    refine kz_aload_n (M := kt_M424) kX13_guards_c1.2.1 rfl ?_
    refine kz_gfc (M := kt_M424) (x := 4150) (c := 12) (o := 0) kX13_guards_c1.2.2.1 wf_X13_291 (.inl rfl) ?_
    refine kz_iload_n (M := kt_M424) kX13_guards_c1.2.2.2.1 rfl ?_
    refine kz_iald (M := kt_M424) (c := 12) (o := 0) (k := 78) (a := (E.2.1 4150)) kX13_guards_c1.2.2.2.2.1 ow_12_0_78 oa_12_0_78 ot_0 h (fun h => ?_)
    exact kz_weak [(0, .ref (w_adr E.2.1 12 0)), (1, .int x1), (2, .int (w_a w 12 0 28 (x1).toNatClampNeg))] ⟨rfl, ⟨rfl, ⟨rfl, trivial⟩⟩⟩ rfl (zt_X13_guards_p21 hL  h)
  · skip
    refine kz_ic (M := kt_M424) 1 kX13_guards_c0.2.2.2.2.2.2.2.1 rfl ?_
    refine kz_goto (M := kt_M424) kX13_guards_c1.1 (t := 21) rfl ?_
    exact kz_weak [(0, .ref (w_adr E.2.1 12 0)), (1, .int x1), (2, .int (w_a w 12 0 28 (x1).toNatClampNeg))] ⟨rfl, ⟨rfl, ⟨rfl, trivial⟩⟩⟩ rfl (zt_X13_guards_p21 hL  h)
def zb_X13_guard_2_p121 (E : zE) (L : Nat) (Q : kx_Rs → wS → Prop) (x2 : Int32) (x5 : Int32) (x6 : Int32) (w : wS) : Prop := zw E (L - 22) kt_M547 [.ref (w_adr E.2.1 12 0), .int (x2 + 2), .int x5] w (wk0 (fun w1 => wle w w1 → zw E (L - 22) kt_M547 [.ref (w_adr E.2.1 12 0), .int (x2 + 3), .int x6] w1 (wk0 (fun w3 => wle w1 w3 → Q (.inl none) w3) (fun e w => Q (.inr e) w))) (fun e w => Q (.inr e) w))
theorem zt_X13_guard_2_p121 {E : zE} {L : Nat} {Q : kx_Rs → wS → Prop} {x2 : Int32} {x5 : Int32} {x6 : Int32} {w : wS} (hL : 25 ≤ L) (h : zb_X13_guard_2_p121 E L Q x2 x5 x6 w) : kzE E L kt_M423 121 [(0, .ref (w_adr E.2.1 12 0)), (2, .int x2), (5, .int x5), (6, .int x6)] [] w Q := by
  unfold zb_X13_guard_2_p121 at h
  refine kz_aload_n (M := kt_M423) kX13_guard_2_c8.2.2.2.2.1 rfl ?_
  refine kz_iload_n (M := kt_M423) kX13_guard_2_c8.2.2.2.2.2.1 rfl ?_
  refine kz_ic (M := kt_M423) 2 kX13_guard_2_c8.2.2.2.2.2.2.1 rfl ?_
  refine kz_iadd (M := kt_M423) kX13_guard_2_c8.2.2.2.2.2.2.2.1 ?_
  refine kz_iload (M := kt_M423) kX13_guard_2_c9.1 rfl ?_
  refine kz_cv0 (M := kt_M423) (c := 12) (o := 0) (As := [.int (x2 + 2), .int x5]) (rest := []) kX13_guard_2_c9.2.1 wl_X13_1140 wMv_547 rfl (.inl rfl) rfl (Nat.le_trans (Nat.le_of_ble_eq_true rfl) hL) (Nat.le_of_ble_eq_true rfl) (Nat.le_of_ble_eq_true rfl) h (fun w1 hle h => ?_) (fun _ _ _ h => kzx_no rfl h)
  have h := h hle
  refine kz_aload_n (M := kt_M423) kX13_guard_2_c9.2.2.1 rfl ?_
  refine kz_iload_n (M := kt_M423) kX13_guard_2_c9.2.2.2.1 rfl ?_
  refine kz_ic (M := kt_M423) 3 kX13_guard_2_c9.2.2.2.2.1 rfl ?_
  refine kz_iadd (M := kt_M423) kX13_guard_2_c9.2.2.2.2.2.1 ?_
  refine kz_iload (M := kt_M423) kX13_guard_2_c9.2.2.2.2.2.2.1 rfl ?_
  refine kz_cv0 (M := kt_M423) (c := 12) (o := 0) (As := [.int (x2 + 3), .int x6]) (rest := []) kX13_guard_2_c9.2.2.2.2.2.2.2.1 wl_X13_1140 wMv_547 rfl (.inl rfl) rfl (Nat.le_trans (Nat.le_of_ble_eq_true rfl) hL) (Nat.le_of_ble_eq_true rfl) (Nat.le_of_ble_eq_true rfl) h (fun w3 hle h => ?_) (fun _ _ _ h => kzx_no rfl h)
  have h := h hle
  exact kz_ret (M := kt_M423) kX13_guard_2_c10.1 rfl h
def zb_X13_guard_2_p102 (E : zE) (L : Nat) (Q : kx_Rs → wS → Prop) (x2 : Int32) (x4 : Int32) (x5 : Int32) (x6 : Int32) (w : wS) : Prop := (if ¬ x5 = 2 then zb_X13_guard_2_p121 E L Q x2 x5 x6 w else (kx_inb x4 (w_n w 12 0 28) = true ∧ zw E (L - 21) kt_M370 [.ref (w_adr E.2.1 12 0), .int (w_a w 12 0 28 (x4).toNatClampNeg)] w (wk1 (fun v2 w1 => wle w w1 → zb_X13_guard_2_p121 E L Q x2 x5 v2 w1) (fun e w => Q (.inr e) w))))
theorem zt_X13_guard_2_p102 {E : zE} {L : Nat} {Q : kx_Rs → wS → Prop} {x2 : Int32} {x4 : Int32} {x5 : Int32} {x6 : Int32} {w : wS} (hL : 25 ≤ L) (h : zb_X13_guard_2_p102 E L Q x2 x4 x5 x6 w) : kzE E L kt_M423 102 [(0, .ref (w_adr E.2.1 12 0)), (2, .int x2), (4, .int x4), (5, .int x5), (6, .int x6)] [] w Q := by
  unfold zb_X13_guard_2_p102 at h
  refine kz_iload (M := kt_M423) kX13_guard_2_c7.2.2.1 rfl ?_
  refine kz_ic (M := kt_M423) 2 kX13_guard_2_c7.2.2.2.1 rfl ?_
  refine kz_icmp_ne (M := kt_M423) kX13_guard_2_c7.2.2.2.2.1 (t := 121) rfl h (fun h => ?_) (fun h => ?_)
  · skip
    exact kz_weak [(0, .ref (w_adr E.2.1 12 0)), (2, .int x2), (5, .int x5), (6, .int x6)] ⟨rfl, ⟨rfl, ⟨rfl, ⟨rfl, trivial⟩⟩⟩⟩ rfl (zt_X13_guard_2_p121 hL  h)
  · skip
    refine kz_aload_n (M := kt_M423) kX13_guard_2_c7.2.2.2.2.2.1 rfl ?_
    refine kz_aload_n (M := kt_M423) kX13_guard_2_c7.2.2.2.2.2.2.1 rfl ?_
    refine kz_gfc (M := kt_M423) (x := 4100) (c := 12) (o := 0) kX13_guard_2_c7.2.2.2.2.2.2.2.1 wf_X13_193 (.inl rfl) ?_
    refine kz_iload (M := kt_M423) kX13_guard_2_c8.1 rfl ?_
    refine kz_iald (M := kt_M423) (c := 12) (o := 0) (k := 28) (a := (E.2.1 4100)) kX13_guard_2_c8.2.1 ow_12_0_28 oa_12_0_28 ot_0 h (fun h => ?_)
    refine kz_cv1 (M := kt_M423) (c := 12) (o := 0) (As := [.int (w_a w 12 0 28 (x4).toNatClampNeg)]) (rest := []) kX13_guard_2_c8.2.2.1 wl_X13_1391 wMv_370 rfl (.inl rfl) rfl (Nat.le_trans (Nat.le_of_ble_eq_true rfl) hL) (Nat.le_of_ble_eq_true rfl) (Nat.le_of_ble_eq_true rfl) h (fun v2 w1 hle h => ?_) (fun _ _ _ h => kzx_no rfl h)
    have h := h hle
    refine kz_sti (M := kt_M423) [(0, .ref (w_adr E.2.1 12 0)), (2, .int x2), (5, .int x5)] kX13_guard_2_c8.2.2.2.1 (Nat.le_of_ble_eq_true rfl) ⟨⟨rfl, rfl, .inl rfl⟩, ⟨⟨rfl, rfl, .inl rfl⟩, ⟨⟨rfl, rfl, .inr rfl⟩, trivial⟩⟩⟩ rfl ?_
    exact kz_weak [(0, .ref (w_adr E.2.1 12 0)), (2, .int x2), (5, .int x5), (6, .int v2)] ⟨rfl, ⟨rfl, ⟨rfl, ⟨rfl, trivial⟩⟩⟩⟩ rfl (zt_X13_guard_2_p121 hL  h)
def zb_X13_guard_2_p78 (E : zE) (L : Nat) (Q : kx_Rs → wS → Prop) (x2 : Int32) (x4 : Int32) (y0 : Int32) (w : wS) : Prop := (if ¬ y0 = 4 then zb_X13_guard_2_p102 E L Q x2 x4 y0 0 w else (kx_inb x4 (w_n w 12 0 29) = true ∧ zw E (L - 25) kt_M404 [.ref (w_adr E.2.1 12 0), .int (w_a w 12 0 29 (x4).toNatClampNeg)] w (wk1 (fun v2 w1 => wle w w1 → zb_X13_guard_2_p102 E L Q x2 x4 y0 v2 w1) (fun e w => Q (.inr e) w))))
theorem zt_X13_guard_2_p78 {E : zE} {L : Nat} {Q : kx_Rs → wS → Prop} {x2 : Int32} {x4 : Int32} {y0 : Int32} {w : wS} (hL : 25 ≤ L) (h : zb_X13_guard_2_p78 E L Q x2 x4 y0 w) : kzE E L kt_M423 78 [(0, .ref (w_adr E.2.1 12 0)), (2, .int x2), (4, .int x4)] [.int y0] w Q := by
  unfold zb_X13_guard_2_p78 at h
  refine kz_sti (M := kt_M423) [(0, .ref (w_adr E.2.1 12 0)), (2, .int x2), (4, .int x4)] kX13_guard_2_c5.2.2.2.2.2.1 (Nat.le_of_ble_eq_true rfl) ⟨⟨rfl, rfl, .inl rfl⟩, ⟨⟨rfl, rfl, .inl rfl⟩, ⟨⟨rfl, rfl, .inr rfl⟩, trivial⟩⟩⟩ rfl ?_
  refine kz_ic (M := kt_M423) 0 kX13_guard_2_c5.2.2.2.2.2.2.1 rfl ?_
  refine kz_sti (M := kt_M423) [(0, .ref (w_adr E.2.1 12 0)), (2, .int x2), (4, .int x4), (5, .int y0)] kX13_guard_2_c5.2.2.2.2.2.2.2.1 (Nat.le_of_ble_eq_true rfl) ⟨⟨rfl, rfl, .inl rfl⟩, ⟨⟨rfl, rfl, .inl rfl⟩, ⟨⟨rfl, rfl, .inl rfl⟩, ⟨⟨rfl, rfl, .inr rfl⟩, trivial⟩⟩⟩⟩ rfl ?_
  refine kz_iload (M := kt_M423) kX13_guard_2_c6.1 rfl ?_
  refine kz_ic (M := kt_M423) 4 kX13_guard_2_c6.2.1 rfl ?_
  refine kz_icmp_ne (M := kt_M423) kX13_guard_2_c6.2.2.1 (t := 102) rfl h (fun h => ?_) (fun h => ?_)
  · skip
    exact kz_weak [(0, .ref (w_adr E.2.1 12 0)), (2, .int x2), (4, .int x4), (5, .int y0), (6, .int 0)] ⟨rfl, ⟨rfl, ⟨rfl, ⟨rfl, ⟨rfl, trivial⟩⟩⟩⟩⟩ rfl (zt_X13_guard_2_p102 hL  h)
  · skip
    refine kz_aload_n (M := kt_M423) kX13_guard_2_c6.2.2.2.1 rfl ?_
    refine kz_aload_n (M := kt_M423) kX13_guard_2_c6.2.2.2.2.1 rfl ?_
    refine kz_gfc (M := kt_M423) (x := 4101) (c := 12) (o := 0) kX13_guard_2_c6.2.2.2.2.2.1 wf_X13_196 (.inl rfl) ?_
    refine kz_iload (M := kt_M423) kX13_guard_2_c6.2.2.2.2.2.2.1 rfl ?_
    refine kz_iald (M := kt_M423) (c := 12) (o := 0) (k := 29) (a := (E.2.1 4101)) kX13_guard_2_c6.2.2.2.2.2.2.2.1 ow_12_0_29 oa_12_0_29 ot_0 h (fun h => ?_)
    refine kz_cv1 (M := kt_M423) (c := 12) (o := 0) (As := [.int (w_a w 12 0 29 (x4).toNatClampNeg)]) (rest := []) kX13_guard_2_c7.1 wl_X13_1207 wMv_404 rfl (.inl rfl) rfl (Nat.le_trans (Nat.le_of_ble_eq_true rfl) hL) (Nat.le_of_ble_eq_true rfl) (Nat.le_of_ble_eq_true rfl) h (fun v2 w1 hle h => ?_) (fun _ _ _ h => kzx_no rfl h)
    have h := h hle
    refine kz_sti (M := kt_M423) [(0, .ref (w_adr E.2.1 12 0)), (2, .int x2), (4, .int x4), (5, .int y0)] kX13_guard_2_c7.2.1 (Nat.le_of_ble_eq_true rfl) ⟨⟨rfl, rfl, .inl rfl⟩, ⟨⟨rfl, rfl, .inl rfl⟩, ⟨⟨rfl, rfl, .inl rfl⟩, ⟨⟨rfl, rfl, .inr rfl⟩, trivial⟩⟩⟩⟩ rfl ?_
    exact kz_weak [(0, .ref (w_adr E.2.1 12 0)), (2, .int x2), (4, .int x4), (5, .int y0), (6, .int v2)] ⟨rfl, ⟨rfl, ⟨rfl, ⟨rfl, ⟨rfl, trivial⟩⟩⟩⟩⟩ rfl (zt_X13_guard_2_p102 hL  h)
def zb_X13_guard_2_p0 (E : zE) (L : Nat) (Q : kx_Rs → wS → Prop) (x1 : Int32) (x2 : Int32) (x3 : Int32) (w : wS) : Prop := (if ¬ x3 = 0 then (kx_inb x1 (w_n w 12 0 29) = true ∧ (kx_inb (w_a w 12 0 29 (x1).toNatClampNeg) (w_n w 12 0 26) = true ∧ (if ¬ w_a w 12 0 26 (w_a w 12 0 29 (x1).toNatClampNeg).toNatClampNeg = 2 then (kx_inb (w_a w 12 0 29 (x1).toNatClampNeg) (w_n w 12 0 26) = true ∧ (if ¬ w_a w 12 0 26 (w_a w 12 0 29 (x1).toNatClampNeg).toNatClampNeg = 6 then (kx_inb (w_a w 12 0 29 (x1).toNatClampNeg) (w_n w 12 0 28) = true ∧ (kx_inb (w_a w 12 0 28 (w_a w 12 0 29 (x1).toNatClampNeg).toNatClampNeg) (w_n w 12 0 31) = true ∧ (kx_inb (w_a w 12 0 31 (w_a w 12 0 28 (w_a w 12 0 29 (x1).toNatClampNeg).toNatClampNeg).toNatClampNeg) (w_n w 12 0 46) = true ∧ (if ¬ w_a w 12 0 46 (w_a w 12 0 31 (w_a w 12 0 28 (w_a w 12 0 29 (x1).toNatClampNeg).toNatClampNeg).toNatClampNeg).toNatClampNeg = 4 then zb_X13_guard_2_p78 E L Q x2 (w_a w 12 0 29 (x1).toNatClampNeg) 2 w else zb_X13_guard_2_p78 E L Q x2 (w_a w 12 0 29 (x1).toNatClampNeg) 3 w)))) else zb_X13_guard_2_p78 E L Q x2 (w_a w 12 0 29 (x1).toNatClampNeg) 4 w)) else zb_X13_guard_2_p78 E L Q x2 (w_a w 12 0 29 (x1).toNatClampNeg) 1 w))) else zw E (L - 22) kt_M547 [.ref (w_adr E.2.1 12 0), .int (x2 + 2), .int 0] w (wk0 (fun w1 => wle w w1 → Q (.inl none) w1) (fun e w => Q (.inr e) w)))
theorem zt_X13_guard_2_p0 {E : zE} {L : Nat} {Q : kx_Rs → wS → Prop} {x1 : Int32} {x2 : Int32} {x3 : Int32} {w : wS} (hL : 25 ≤ L) (h : zb_X13_guard_2_p0 E L Q x1 x2 x3 w) : kzE E L kt_M423 0 [(0, .ref (w_adr E.2.1 12 0)), (1, .int x1), (2, .int x2), (3, .int x3)] [] w Q := by
  unfold zb_X13_guard_2_p0 at h
  refine kz_iload_n (M := kt_M423) kX13_guard_2_c0.1 rfl ?_
  refine kz_if_ne (M := kt_M423) kX13_guard_2_c0.2.1 (t := 13) rfl h (fun h => ?_) (fun h => ?_)
  · skip
    refine kz_aload_n (M := kt_M423) kX13_guard_2_c1.2.1 rfl ?_
    refine kz_gfc (M := kt_M423) (x := 4101) (c := 12) (o := 0) kX13_guard_2_c1.2.2.1 wf_X13_196 (.inl rfl) ?_
    refine kz_iload_n (M := kt_M423) kX13_guard_2_c1.2.2.2.1 rfl ?_
    refine kz_iald (M := kt_M423) (c := 12) (o := 0) (k := 29) (a := (E.2.1 4101)) kX13_guard_2_c1.2.2.2.2.1 ow_12_0_29 oa_12_0_29 ot_0 h (fun h => ?_)
    refine kz_sti (M := kt_M423) [(0, .ref (w_adr E.2.1 12 0)), (2, .int x2)] kX13_guard_2_c1.2.2.2.2.2.1 (Nat.le_of_ble_eq_true rfl) ⟨⟨rfl, rfl, .inl rfl⟩, ⟨⟨rfl, rfl, .inl rfl⟩, trivial⟩⟩ rfl ?_
    refine kz_aload_n (M := kt_M423) kX13_guard_2_c1.2.2.2.2.2.2.1 rfl ?_
    refine kz_gfc (M := kt_M423) (x := 4098) (c := 12) (o := 0) kX13_guard_2_c1.2.2.2.2.2.2.2.1 wf_X13_187 (.inl rfl) ?_
    refine kz_iload (M := kt_M423) kX13_guard_2_c2.1 rfl ?_
    refine kz_iald (M := kt_M423) (c := 12) (o := 0) (k := 26) (a := (E.2.1 4098)) kX13_guard_2_c2.2.1 ow_12_0_26 oa_12_0_26 ot_0 h (fun h => ?_)
    refine kz_ic (M := kt_M423) 2 kX13_guard_2_c2.2.2.1 rfl ?_
    refine kz_icmp_ne (M := kt_M423) kX13_guard_2_c2.2.2.2.1 (t := 36) rfl h (fun h => ?_) (fun h => ?_)
    · skip
      refine kz_aload_n (M := kt_M423) kX13_guard_2_c2.2.2.2.2.2.2.1 rfl ?_
      refine kz_gfc (M := kt_M423) (x := 4098) (c := 12) (o := 0) kX13_guard_2_c2.2.2.2.2.2.2.2.1 wf_X13_187 (.inl rfl) ?_
      refine kz_iload (M := kt_M423) kX13_guard_2_c3.1 rfl ?_
      refine kz_iald (M := kt_M423) (c := 12) (o := 0) (k := 26) (a := (E.2.1 4098)) kX13_guard_2_c3.2.1 ow_12_0_26 oa_12_0_26 ot_0 h (fun h => ?_)
      refine kz_bi (M := kt_M423) 6 kX13_guard_2_c3.2.2.1 rfl ?_
      refine kz_icmp_ne (M := kt_M423) kX13_guard_2_c3.2.2.2.1 (t := 52) rfl h (fun h => ?_) (fun h => ?_)
      · skip
        refine kz_aload_n (M := kt_M423) kX13_guard_2_c3.2.2.2.2.2.2.1 rfl ?_
        refine kz_gfc (M := kt_M423) (x := 4118) (c := 12) (o := 0) kX13_guard_2_c3.2.2.2.2.2.2.2.1 wf_X13_223 (.inl rfl) ?_
        refine kz_aload_n (M := kt_M423) kX13_guard_2_c4.1 rfl ?_
        refine kz_gfc (M := kt_M423) (x := 4103) (c := 12) (o := 0) kX13_guard_2_c4.2.1 wf_X13_202 (.inl rfl) ?_
        refine kz_aload_n (M := kt_M423) kX13_guard_2_c4.2.2.1 rfl ?_
        refine kz_gfc (M := kt_M423) (x := 4100) (c := 12) (o := 0) kX13_guard_2_c4.2.2.2.1 wf_X13_193 (.inl rfl) ?_
        refine kz_iload (M := kt_M423) kX13_guard_2_c4.2.2.2.2.1 rfl ?_
        refine kz_iald (M := kt_M423) (c := 12) (o := 0) (k := 28) (a := (E.2.1 4100)) kX13_guard_2_c4.2.2.2.2.2.1 ow_12_0_28 oa_12_0_28 ot_0 h (fun h => ?_)
        refine kz_iald (M := kt_M423) (c := 12) (o := 0) (k := 31) (a := (E.2.1 4103)) kX13_guard_2_c4.2.2.2.2.2.2.1 ow_12_0_31 oa_12_0_31 ot_0 h (fun h => ?_)
        refine kz_iald (M := kt_M423) (c := 12) (o := 0) (k := 46) (a := (E.2.1 4118)) kX13_guard_2_c4.2.2.2.2.2.2.2.1 ow_12_0_46 oa_12_0_46 ot_0 h (fun h => ?_)
        refine kz_ic (M := kt_M423) 4 kX13_guard_2_c5.1 rfl ?_
        refine kz_icmp_ne (M := kt_M423) kX13_guard_2_c5.2.1 (t := 77) rfl h (fun h => ?_) (fun h => ?_)
        · skip
          refine kz_ic (M := kt_M423) 2 kX13_guard_2_c5.2.2.2.2.1 rfl ?_
          exact kz_weak [(0, .ref (w_adr E.2.1 12 0)), (2, .int x2), (4, .int (w_a w 12 0 29 (x1).toNatClampNeg))] ⟨rfl, ⟨rfl, ⟨rfl, trivial⟩⟩⟩ rfl (zt_X13_guard_2_p78 hL  h)
        · skip
          refine kz_ic (M := kt_M423) 3 kX13_guard_2_c5.2.2.1 rfl ?_
          refine kz_goto (M := kt_M423) kX13_guard_2_c5.2.2.2.1 (t := 78) rfl ?_
          exact kz_weak [(0, .ref (w_adr E.2.1 12 0)), (2, .int x2), (4, .int (w_a w 12 0 29 (x1).toNatClampNeg))] ⟨rfl, ⟨rfl, ⟨rfl, trivial⟩⟩⟩ rfl (zt_X13_guard_2_p78 hL  h)
      · skip
        refine kz_ic (M := kt_M423) 4 kX13_guard_2_c3.2.2.2.2.1 rfl ?_
        refine kz_goto (M := kt_M423) kX13_guard_2_c3.2.2.2.2.2.1 (t := 78) rfl ?_
        exact kz_weak [(0, .ref (w_adr E.2.1 12 0)), (2, .int x2), (4, .int (w_a w 12 0 29 (x1).toNatClampNeg))] ⟨rfl, ⟨rfl, ⟨rfl, trivial⟩⟩⟩ rfl (zt_X13_guard_2_p78 hL  h)
    · skip
      refine kz_ic (M := kt_M423) 1 kX13_guard_2_c2.2.2.2.2.1 rfl ?_
      refine kz_goto (M := kt_M423) kX13_guard_2_c2.2.2.2.2.2.1 (t := 78) rfl ?_
      exact kz_weak [(0, .ref (w_adr E.2.1 12 0)), (2, .int x2), (4, .int (w_a w 12 0 29 (x1).toNatClampNeg))] ⟨rfl, ⟨rfl, ⟨rfl, trivial⟩⟩⟩ rfl (zt_X13_guard_2_p78 hL  h)
  · skip
    refine kz_aload_n (M := kt_M423) kX13_guard_2_c0.2.2.1 rfl ?_
    refine kz_iload_n (M := kt_M423) kX13_guard_2_c0.2.2.2.1 rfl ?_
    refine kz_ic (M := kt_M423) 2 kX13_guard_2_c0.2.2.2.2.1 rfl ?_
    refine kz_iadd (M := kt_M423) kX13_guard_2_c0.2.2.2.2.2.1 ?_
    refine kz_ic (M := kt_M423) 0 kX13_guard_2_c0.2.2.2.2.2.2.1 rfl ?_
    refine kz_cv0 (M := kt_M423) (c := 12) (o := 0) (As := [.int (x2 + 2), .int 0]) (rest := []) kX13_guard_2_c0.2.2.2.2.2.2.2.1 wl_X13_1140 wMv_547 rfl (.inl rfl) rfl (Nat.le_trans (Nat.le_of_ble_eq_true rfl) hL) (Nat.le_of_ble_eq_true rfl) (Nat.le_of_ble_eq_true rfl) h (fun w1 hle h => ?_) (fun _ _ _ h => kzx_no rfl h)
    have h := h hle
    exact kz_ret (M := kt_M423) kX13_guard_2_c1.1 rfl h
def zb_X13_isReady_p110 (E : zE) (L : Nat) (Q : kx_Rs → wS → Prop) (y0 : Int32) (w : wS) : Prop := ((y0 = 0 ∨ y0 = 1) ∧ Q (.inl (some (.int y0))) w)
theorem zt_X13_isReady_p110 {E : zE} {L : Nat} {Q : kx_Rs → wS → Prop} {y0 : Int32} {w : wS} (hL : 23 ≤ L) (h : zb_X13_isReady_p110 E L Q y0 w) : kzE E L kt_M446 110 [(0, .ref (w_adr E.2.1 12 0))] [.int y0] w Q := by
  unfold zb_X13_isReady_p110 at h
  exact kz_iretz (M := kt_M446) kX13_isReady_c5.2.2.2.2.2.2.1 rfl h.1 h.2
def zb_X13_isReady_p95 (E : zE) (L : Nat) (Q : kx_Rs → wS → Prop) (y0 : Int32) (w : wS) : Prop := ((y0 = 0 ∨ y0 = 1) ∧ Q (.inl (some (.int y0))) w)
theorem zt_X13_isReady_p95 {E : zE} {L : Nat} {Q : kx_Rs → wS → Prop} {y0 : Int32} {w : wS} (hL : 23 ≤ L) (h : zb_X13_isReady_p95 E L Q y0 w) : kzE E L kt_M446 95 [(0, .ref (w_adr E.2.1 12 0))] [.int y0] w Q := by
  unfold zb_X13_isReady_p95 at h
  exact kz_iretz (M := kt_M446) kX13_isReady_c4.2.2.2.2.2.1 rfl h.1 h.2
def zb_X13_isReady_p94 (E : zE) (L : Nat) (Q : kx_Rs → wS → Prop) (w : wS) : Prop := zb_X13_isReady_p95 E L Q 0 w
theorem zt_X13_isReady_p94 {E : zE} {L : Nat} {Q : kx_Rs → wS → Prop} {w : wS} (hL : 23 ≤ L) (h : zb_X13_isReady_p94 E L Q  w) : kzE E L kt_M446 94 [(0, .ref (w_adr E.2.1 12 0))] [] w Q := by
  unfold zb_X13_isReady_p94 at h
  refine kz_ic (M := kt_M446) 0 kX13_isReady_c4.2.2.2.2.1 rfl ?_
  exact kz_weak [(0, .ref (w_adr E.2.1 12 0))] ⟨rfl, trivial⟩ rfl (zt_X13_isReady_p95 hL  h)
def zb_X13_isReady_p0 (E : zE) (L : Nat) (Q : kx_Rs → wS → Prop) (x1 : Int32) (w : wS) : Prop := zw E (L - 21) kt_M410 [.ref (w_adr E.2.1 12 0), .int (x1 + 3)] w (wk1 (fun v2 w1 => wle w w1 → zw E (L - 21) kt_M410 [.ref (w_adr E.2.1 12 0), .int (x1 + 2)] w1 (wk1 (fun v4 w3 => wle w1 w3 → (if v4 = 0 then Q (.inl (some (.int 0))) w3 else (if v4 = 2 then (if ¬ v2 = w_i w3 12 0 140 then (if v2 = w_i w3 12 0 139 then zb_X13_isReady_p94 E L Q w3 else zw E (L - 23) kt_M597 [.ref (w_adr E.2.1 12 0), .int 1, .int v2] w3 (wk1 (fun v6 w5 => wle w3 w5 → (if v6 < 0 then zb_X13_isReady_p94 E L Q w5 else zb_X13_isReady_p95 E L Q 1 w5)) (fun e w => Q (.inr e) w))) else (if w_i w3 12 0 137 ≤ 0 then zb_X13_isReady_p95 E L Q 0 w3 else zb_X13_isReady_p95 E L Q 1 w3)) else (if v4 = 4 then (if ((w_i w3 12 0 128) - v2) ≤ 0 then zb_X13_isReady_p110 E L Q 0 w3 else zb_X13_isReady_p110 E L Q 1 w3) else Q (.inl (some (.int 1))) w3)))) (fun e w => Q (.inr e) w))) (fun e w => Q (.inr e) w))
theorem zt_X13_isReady_p0 {E : zE} {L : Nat} {Q : kx_Rs → wS → Prop} {x1 : Int32} {w : wS} (hL : 23 ≤ L) (h : zb_X13_isReady_p0 E L Q x1 w) : kzE E L kt_M446 0 [(0, .ref (w_adr E.2.1 12 0)), (1, .int x1)] [] w Q := by
  unfold zb_X13_isReady_p0 at h
  refine kz_aload_n (M := kt_M446) kX13_isReady_c0.1 rfl ?_
  refine kz_iload_n (M := kt_M446) kX13_isReady_c0.2.1 rfl ?_
  refine kz_ic (M := kt_M446) 3 kX13_isReady_c0.2.2.1 rfl ?_
  refine kz_iadd (M := kt_M446) kX13_isReady_c0.2.2.2.1 ?_
  refine kz_cv1 (M := kt_M446) (c := 12) (o := 0) (As := [.int (x1 + 3)]) (rest := []) kX13_isReady_c0.2.2.2.2.1 wl_X13_1177 wMv_410 rfl (.inl rfl) rfl (Nat.le_trans (Nat.le_of_ble_eq_true rfl) hL) (Nat.le_of_ble_eq_true rfl) (Nat.le_of_ble_eq_true rfl) h (fun v2 w1 hle h => ?_) (fun _ _ _ h => kzx_no rfl h)
  have h := h hle
  refine kz_sti_n (M := kt_M446) [(0, .ref (w_adr E.2.1 12 0)), (1, .int x1)] kX13_isReady_c0.2.2.2.2.2.1 (Nat.le_of_ble_eq_true rfl) ⟨⟨rfl, rfl, .inl rfl⟩, ⟨⟨rfl, rfl, .inr rfl⟩, trivial⟩⟩ rfl ?_
  refine kz_aload_n (M := kt_M446) kX13_isReady_c0.2.2.2.2.2.2.1 rfl ?_
  refine kz_iload_n (M := kt_M446) kX13_isReady_c0.2.2.2.2.2.2.2.1 rfl ?_
  refine kz_ic (M := kt_M446) 2 kX13_isReady_c1.1 rfl ?_
  refine kz_iadd (M := kt_M446) kX13_isReady_c1.2.1 ?_
  refine kz_cv1 (M := kt_M446) (c := 12) (o := 0) (As := [.int (x1 + 2)]) (rest := []) kX13_isReady_c1.2.2.1 wl_X13_1177 wMv_410 rfl (.inl rfl) rfl (Nat.le_trans (Nat.le_of_ble_eq_true rfl) hL) (Nat.le_of_ble_eq_true rfl) (Nat.le_of_ble_eq_true rfl) h (fun v4 w3 hle h => ?_) (fun _ _ _ h => kzx_no rfl h)
  have h := h hle
  refine kz_tsw (M := kt_M446) [(0, 48), (2, 50), (4, 96)] [_, _, _] 111 dX13_isReady_p15 (by decide +kernel) h ⟨fun h => ?_, fun h => ?_, fun h => ?_, trivial⟩ (fun h => ?_)
  · skip
    refine kz_ic (M := kt_M446) 0 kX13_isReady_c1.2.2.2.2.1 rfl ?_
    exact kz_iretz (M := kt_M446) kX13_isReady_c1.2.2.2.2.2.1 rfl (by decide) h
  · skip
    refine kz_iload_n (M := kt_M446) kX13_isReady_c1.2.2.2.2.2.2.1 rfl ?_
    refine kz_aload_n (M := kt_M446) kX13_isReady_c1.2.2.2.2.2.2.2.1 rfl ?_
    refine kz_gfi (M := kt_M446) (c := 12) (o := 0) kX13_isReady_c2.1 wf_X13_1410 (.inl rfl) ?_
    refine kz_icmp_ne (M := kt_M446) kX13_isReady_c2.2.1 (t := 73) rfl h (fun h => ?_) (fun h => ?_)
    · skip
      refine kz_iload_n (M := kt_M446) kX13_isReady_c3.2.1 rfl ?_
      refine kz_aload_n (M := kt_M446) kX13_isReady_c3.2.2.1 rfl ?_
      refine kz_gfi (M := kt_M446) (c := 12) (o := 0) kX13_isReady_c3.2.2.2.1 wf_X13_1401 (.inl rfl) ?_
      refine kz_icmp_eq (M := kt_M446) kX13_isReady_c3.2.2.2.2.1 (t := 94) rfl h (fun h => ?_) (fun h => ?_)
      · skip
        exact kz_weak [(0, .ref (w_adr E.2.1 12 0))] ⟨rfl, trivial⟩ rfl (zt_X13_isReady_p94 hL  h)
      · skip
        refine kz_aload_n (M := kt_M446) kX13_isReady_c3.2.2.2.2.2.1 rfl ?_
        refine kz_ic (M := kt_M446) 1 kX13_isReady_c3.2.2.2.2.2.2.1 rfl ?_
        refine kz_iload_n (M := kt_M446) kX13_isReady_c3.2.2.2.2.2.2.2.1 rfl ?_
        refine kz_cv1 (M := kt_M446) (c := 12) (o := 0) (As := [.int 1, .int v2]) (rest := []) kX13_isReady_c4.1 wl_X13_1416 wMv_597 rfl (.inl rfl) rfl (Nat.le_trans (Nat.le_of_ble_eq_true rfl) hL) (Nat.le_of_ble_eq_true rfl) (Nat.le_of_ble_eq_true rfl) h (fun v6 w5 hle h => ?_) (fun _ _ _ h => kzx_no rfl h)
        have h := h hle
        refine kz_if_lt (M := kt_M446) kX13_isReady_c4.2.1 (t := 94) rfl h (fun h => ?_) (fun h => ?_)
        · skip
          exact kz_weak [(0, .ref (w_adr E.2.1 12 0))] ⟨rfl, trivial⟩ rfl (zt_X13_isReady_p94 hL  h)
        · skip
          refine kz_ic (M := kt_M446) 1 kX13_isReady_c4.2.2.1 rfl ?_
          refine kz_goto (M := kt_M446) kX13_isReady_c4.2.2.2.1 (t := 95) rfl ?_
          exact kz_weak [(0, .ref (w_adr E.2.1 12 0))] ⟨rfl, trivial⟩ rfl (zt_X13_isReady_p95 hL  h)
    · skip
      refine kz_aload_n (M := kt_M446) kX13_isReady_c2.2.2.1 rfl ?_
      refine kz_gfi (M := kt_M446) (c := 12) (o := 0) kX13_isReady_c2.2.2.2.1 wf_X13_1448 (.inl rfl) ?_
      refine kz_if_le (M := kt_M446) kX13_isReady_c2.2.2.2.2.1 (t := 69) rfl h (fun h => ?_) (fun h => ?_)
      · skip
        refine kz_ic (M := kt_M446) 0 kX13_isReady_c2.2.2.2.2.2.2.2.1 rfl ?_
        refine kz_goto (M := kt_M446) kX13_isReady_c3.1 (t := 95) rfl ?_
        exact kz_weak [(0, .ref (w_adr E.2.1 12 0))] ⟨rfl, trivial⟩ rfl (zt_X13_isReady_p95 hL  h)
      · skip
        refine kz_ic (M := kt_M446) 1 kX13_isReady_c2.2.2.2.2.2.1 rfl ?_
        refine kz_goto (M := kt_M446) kX13_isReady_c2.2.2.2.2.2.2.1 (t := 95) rfl ?_
        exact kz_weak [(0, .ref (w_adr E.2.1 12 0))] ⟨rfl, trivial⟩ rfl (zt_X13_isReady_p95 hL  h)
  · skip
    refine kz_aload_n (M := kt_M446) kX13_isReady_c4.2.2.2.2.2.2.1 rfl ?_
    refine kz_gfi (M := kt_M446) (c := 12) (o := 0) kX13_isReady_c4.2.2.2.2.2.2.2.1 wf_X13_1388 (.inl rfl) ?_
    refine kz_iload_n (M := kt_M446) kX13_isReady_c5.1 rfl ?_
    refine kz_isub (M := kt_M446) kX13_isReady_c5.2.1 ?_
    refine kz_if_le (M := kt_M446) kX13_isReady_c5.2.2.1 (t := 109) rfl h (fun h => ?_) (fun h => ?_)
    · skip
      refine kz_ic (M := kt_M446) 0 kX13_isReady_c5.2.2.2.2.2.1 rfl ?_
      exact kz_weak [(0, .ref (w_adr E.2.1 12 0))] ⟨rfl, trivial⟩ rfl (zt_X13_isReady_p110 hL  h)
    · skip
      refine kz_ic (M := kt_M446) 1 kX13_isReady_c5.2.2.2.1 rfl ?_
      refine kz_goto (M := kt_M446) kX13_isReady_c5.2.2.2.2.1 (t := 110) rfl ?_
      exact kz_weak [(0, .ref (w_adr E.2.1 12 0))] ⟨rfl, trivial⟩ rfl (zt_X13_isReady_p110 hL  h)
  · skip
    refine kz_ic (M := kt_M446) 1 kX13_isReady_c5.2.2.2.2.2.2.2.1 rfl ?_
    exact kz_iretz (M := kt_M446) kX13_isReady_c6.1 rfl (by decide) h
def zb_X13_draw_p0 (E : zE) (L : Nat) (Q : kx_Rs → wS → Prop) (x1 : Int32) (w : wS) : Prop := (¬ x1 = 0 ∧ Q (.inl (some (.int (((((((w_i w 12 0 126) * 1103515245) + 12345)).toUInt32 >>> ((16).toUInt32 &&& Int32.toUInt32 31)).toInt32) - ((((((w_i w 12 0 126) * 1103515245) + 12345)).toUInt32 >>> ((16).toUInt32 &&& Int32.toUInt32 31)).toInt32) / x1 * x1)))) (ws_i w 12 0 126 (((w_i w 12 0 126) * 1103515245) + 12345)))
theorem zt_X13_draw_p0 {E : zE} {L : Nat} {Q : kx_Rs → wS → Prop} {x1 : Int32} {w : wS} (hL : 19 ≤ L) (h : zb_X13_draw_p0 E L Q x1 w) : kzE E L kt_M389 0 [(0, .ref (w_adr E.2.1 12 0)), (1, .int x1)] [] w Q := by
  unfold zb_X13_draw_p0 at h
  refine kz_aload_n (M := kt_M389) kX13_draw_c0.1 rfl ?_
  refine kz_aload_n (M := kt_M389) kX13_draw_c0.2.1 rfl ?_
  refine kz_gfi (M := kt_M389) (c := 12) (o := 0) kX13_draw_c0.2.2.1 wf_X13_1472 (.inl rfl) ?_
  refine kz_ldcw (M := kt_M389) (x := 1103515245) kX13_draw_c0.2.2.2.1 (zc_X13_1475) ?_
  refine kz_imul (M := kt_M389) kX13_draw_c0.2.2.2.2.1 ?_
  refine kz_si (M := kt_M389) 12345 kX13_draw_c0.2.2.2.2.2.1 rfl ?_
  refine kz_iadd (M := kt_M389) kX13_draw_c0.2.2.2.2.2.2.1 ?_
  refine kz_pfi (M := kt_M389) (c := 12) (o := 0) kX13_draw_c0.2.2.2.2.2.2.2.1 wq_X13_1472 (.inl rfl) ?_
  refine kz_aload_n (M := kt_M389) kX13_draw_c1.1 rfl ?_
  refine kz_gfiR (M := kt_M389) (c := 12) (o := 0) (((w_i w 12 0 126) * 1103515245) + 12345) kX13_draw_c1.2.1 wf_X13_1472 (.inl rfl) rd_i_e ?_
  refine kz_bi (M := kt_M389) 16 kX13_draw_c1.2.2.1 rfl ?_
  refine kz_iushr (M := kt_M389) kX13_draw_c1.2.2.2.1 ?_
  refine kz_iload_n (M := kt_M389) kX13_draw_c1.2.2.2.2.1 rfl ?_
  obtain ⟨h0, h⟩ := h
  refine kz_irem (M := kt_M389) kX13_draw_c1.2.2.2.2.2.1 h0 ?_
  exact kz_iret (M := kt_M389) kX13_draw_c1.2.2.2.2.2.2.1 rfl rfl h
def zb_X13_takes_p251 (E : zE) (L : Nat) (Q : kx_Rs → wS → Prop) (x5 : Int32) (x6 : Int32) (w : wS) : Prop := (kx_inb (w_i w 12 0 161) (w_n w 12 0 155) = true ∧ zw E (L - 24) kt_M434 [.ref (w_adr E.2.1 12 0), .int x6, .int x5] (ws_a w 12 0 155 (w_i w 12 0 161).toNatClampNeg x5) (wk0 (fun w1 => wle (ws_a w 12 0 155 (w_i w 12 0 161).toNatClampNeg x5) w1 → Q (.inl none) w1) (fun e w => Q (.inr e) w)))
theorem zt_X13_takes_p251 {E : zE} {L : Nat} {Q : kx_Rs → wS → Prop} {x5 : Int32} {x6 : Int32} {w : wS} (hL : 27 ≤ L) (h : zb_X13_takes_p251 E L Q x5 x6 w) : kzE E L kt_M555 251 [(0, .ref (w_adr E.2.1 12 0)), (5, .int x5), (6, .int x6)] [] w Q := by
  unfold zb_X13_takes_p251 at h
  refine kz_aload_n (M := kt_M555) kX13_takes_c18.2.2.2.1 rfl ?_
  refine kz_gfc (M := kt_M555) (x := 4227) (c := 12) (o := 0) kX13_takes_c18.2.2.2.2.1 wf_X13_418 (.inl rfl) ?_
  refine kz_aload_n (M := kt_M555) kX13_takes_c18.2.2.2.2.2.1 rfl ?_
  refine kz_gfi (M := kt_M555) (c := 12) (o := 0) kX13_takes_c18.2.2.2.2.2.2.1 wf_X13_1168 (.inl rfl) ?_
  refine kz_iload (M := kt_M555) kX13_takes_c18.2.2.2.2.2.2.2.1 rfl ?_
  refine kz_iast (M := kt_M555) (c := 12) (o := 0) (k := 155) (a := (E.2.1 4227)) kX13_takes_c19.1 ow_12_0_155 oa_12_0_155 ot_0 h (fun h => ?_)
  refine kz_aload_n (M := kt_M555) kX13_takes_c19.2.1 rfl ?_
  refine kz_iload (M := kt_M555) kX13_takes_c19.2.2.1 rfl ?_
  refine kz_iload (M := kt_M555) kX13_takes_c19.2.2.2.1 rfl ?_
  refine kz_cv0 (M := kt_M555) (c := 12) (o := 0) (As := [.int x6, .int x5]) (rest := []) kX13_takes_c19.2.2.2.2.1 wl_X13_1446 wMv_434 rfl (.inl rfl) rfl (Nat.le_trans (Nat.le_of_ble_eq_true rfl) hL) (Nat.le_of_ble_eq_true rfl) (Nat.le_of_ble_eq_true rfl) h (fun w1 hle h => ?_) (fun _ _ _ h => kzx_no rfl h)
  have h := h hle
  exact kz_ret (M := kt_M555) kX13_takes_c19.2.2.2.2.2.1 rfl h
def zb_X13_takes_p157 (E : zE) (L : Nat) (Q : kx_Rs → wS → Prop) (w : wS) : Prop := Q (.inl none) w
theorem zt_X13_takes_p157 {E : zE} {L : Nat} {Q : kx_Rs → wS → Prop} {w : wS} (hL : 27 ≤ L) (h : zb_X13_takes_p157 E L Q  w) : kzE E L kt_M555 157 [(0, .ref (w_adr E.2.1 12 0))] [] w Q := by
  unfold zb_X13_takes_p157 at h
  exact kz_ret (M := kt_M555) kX13_takes_c11.2.2.2.2.2.2.1 rfl h
def zb_X13_takes_p145 (E : zE) (L : Nat) (Q : kx_Rs → wS → Prop) (x4 : Int32) (x5 : Int32) (x6 : Int32) (w : wS) : Prop := (if x4 = 1 then zb_X13_takes_p157 E L Q w else (if ¬ x4 = 4 then zw E (L - 25) kt_M518 [.ref (w_adr E.2.1 12 0), .int 0, .int x6, .int 0, .int 0] w (wk0 (fun w1 => wle w w1 → (if ¬ x4 = 3 then zw E (L - 21) kt_M521 [.ref (w_adr E.2.1 12 0), .int x5] w1 (wk0 (fun w3 => wle w1 w3 → (kx_inb x6 (w_n w3 12 0 26) = true ∧ (if ¬ w_a w3 12 0 26 (x6).toNatClampNeg = 5 then zb_X13_takes_p251 E L Q x5 x6 w3 else (kx_inb x6 (w_n w3 12 0 28) = true ∧ (kx_inb (w_a w3 12 0 28 (x6).toNatClampNeg) (w_n w3 12 0 31) = true ∧ zw E (L - 27) kt_M510 [.ref (w_adr E.2.1 12 0), .int x6, .int (w_a w3 12 0 31 (w_a w3 12 0 28 (x6).toNatClampNeg).toNatClampNeg)] w3 (wk0 (fun w5 => wle w3 w5 → zb_X13_takes_p251 E L Q x5 x6 w5) (fun e w => Q (.inr e) w))))))) (fun e w => Q (.inr e) w)) else (kx_inb x6 (w_n w1 12 0 29) = true ∧ zw E (L - 22) kt_M557 [.ref (w_adr E.2.1 12 0), .int (w_a w1 12 0 29 (x6).toNatClampNeg)] w1 (wk0 (fun w7 => wle w1 w7 → (kx_inb ((w_i w7 12 0 174) - 1) (w_n w7 12 0 175) = true ∧ zw E (L - 22) kt_M369 [.ref (w_adr E.2.1 12 0), .int (w_a w7 12 0 175 (((w_i w7 12 0 174) - 1)).toNatClampNeg), .int (w_i w7 12 0 128)] (ws_i w7 12 0 174 ((w_i w7 12 0 174) - 1)) (wk0 (fun w9 => wle (ws_i w7 12 0 174 ((w_i w7 12 0 174) - 1)) w9 → zw E (L - 21) kt_M511 [.ref (w_adr E.2.1 12 0)] w9 (wk0 (fun w11 => wle w9 w11 → Q (.inl none) w11) (fun e w => Q (.inr e) w))) (fun e w => Q (.inr e) w)))) (fun e w => Q (.inr e) w))))) (fun e w => Q (.inr e) w)) else zb_X13_takes_p157 E L Q w))
theorem zt_X13_takes_p145 {E : zE} {L : Nat} {Q : kx_Rs → wS → Prop} {x4 : Int32} {x5 : Int32} {x6 : Int32} {w : wS} (hL : 27 ≤ L) (h : zb_X13_takes_p145 E L Q x4 x5 x6 w) : kzE E L kt_M555 145 [(0, .ref (w_adr E.2.1 12 0)), (4, .int x4), (5, .int x5), (6, .int x6)] [] w Q := by
  unfold zb_X13_takes_p145 at h
  refine kz_iload (M := kt_M555) kX13_takes_c11.1 rfl ?_
  refine kz_ic (M := kt_M555) 1 kX13_takes_c11.2.1 rfl ?_
  refine kz_icmp_eq (M := kt_M555) kX13_takes_c11.2.2.1 (t := 157) rfl h (fun h => ?_) (fun h => ?_)
  · skip
    exact kz_weak [(0, .ref (w_adr E.2.1 12 0))] ⟨rfl, trivial⟩ rfl (zt_X13_takes_p157 hL  h)
  · skip
    refine kz_iload (M := kt_M555) kX13_takes_c11.2.2.2.1 rfl ?_
    refine kz_ic (M := kt_M555) 4 kX13_takes_c11.2.2.2.2.1 rfl ?_
    refine kz_icmp_ne (M := kt_M555) kX13_takes_c11.2.2.2.2.2.1 (t := 158) rfl h (fun h => ?_) (fun h => ?_)
    · skip
      refine kz_aload_n (M := kt_M555) kX13_takes_c11.2.2.2.2.2.2.2.1 rfl ?_
      refine kz_ic (M := kt_M555) 0 kX13_takes_c12.1 rfl ?_
      refine kz_iload (M := kt_M555) kX13_takes_c12.2.1 rfl ?_
      refine kz_ic (M := kt_M555) 0 kX13_takes_c12.2.2.1 rfl ?_
      refine kz_ic (M := kt_M555) 0 kX13_takes_c12.2.2.2.1 rfl ?_
      refine kz_cv0 (M := kt_M555) (c := 12) (o := 0) (As := [.int 0, .int x6, .int 0, .int 0]) (rest := []) kX13_takes_c12.2.2.2.2.1 wl_X13_1278 wMv_518 rfl (.inl rfl) rfl (Nat.le_trans (Nat.le_of_ble_eq_true rfl) hL) (Nat.le_of_ble_eq_true rfl) (Nat.le_of_ble_eq_true rfl) h (fun w1 hle h => ?_) (fun _ _ _ h => kzx_no rfl h)
      have h := h hle
      refine kz_iload (M := kt_M555) kX13_takes_c12.2.2.2.2.2.1 rfl ?_
      refine kz_ic (M := kt_M555) 3 kX13_takes_c12.2.2.2.2.2.2.1 rfl ?_
      refine kz_icmp_ne (M := kt_M555) kX13_takes_c12.2.2.2.2.2.2.2.1 (t := 216) rfl h (fun h => ?_) (fun h => ?_)
      · skip
        refine kz_aload_n (M := kt_M555) kX13_takes_c16.1 rfl ?_
        refine kz_iload (M := kt_M555) kX13_takes_c16.2.1 rfl ?_
        refine kz_cv0 (M := kt_M555) (c := 12) (o := 0) (As := [.int x5]) (rest := []) kX13_takes_c16.2.2.1 wl_X13_1440 wMv_521 rfl (.inl rfl) rfl (Nat.le_trans (Nat.le_of_ble_eq_true rfl) hL) (Nat.le_of_ble_eq_true rfl) (Nat.le_of_ble_eq_true rfl) h (fun w3 hle h => ?_) (fun _ _ _ h => kzx_no rfl h)
        have h := h hle
        refine kz_aload_n (M := kt_M555) kX13_takes_c16.2.2.2.1 rfl ?_
        refine kz_gfc (M := kt_M555) (x := 4098) (c := 12) (o := 0) kX13_takes_c16.2.2.2.2.1 wf_X13_187 (.inl rfl) ?_
        refine kz_iload (M := kt_M555) kX13_takes_c16.2.2.2.2.2.1 rfl ?_
        refine kz_iald (M := kt_M555) (c := 12) (o := 0) (k := 26) (a := (E.2.1 4098)) kX13_takes_c16.2.2.2.2.2.2.1 ow_12_0_26 oa_12_0_26 ot_0 h (fun h => ?_)
        refine kz_ic (M := kt_M555) 5 kX13_takes_c16.2.2.2.2.2.2.2.1 rfl ?_
        refine kz_icmp_ne (M := kt_M555) kX13_takes_c17.1 (t := 251) rfl h (fun h => ?_) (fun h => ?_)
        · skip
          exact kz_weak [(0, .ref (w_adr E.2.1 12 0)), (5, .int x5), (6, .int x6)] ⟨rfl, ⟨rfl, ⟨rfl, trivial⟩⟩⟩ rfl (zt_X13_takes_p251 hL  h)
        · skip
          refine kz_aload_n (M := kt_M555) kX13_takes_c17.2.1 rfl ?_
          refine kz_iload (M := kt_M555) kX13_takes_c17.2.2.1 rfl ?_
          refine kz_aload_n (M := kt_M555) kX13_takes_c17.2.2.2.1 rfl ?_
          refine kz_gfc (M := kt_M555) (x := 4103) (c := 12) (o := 0) kX13_takes_c17.2.2.2.2.1 wf_X13_202 (.inl rfl) ?_
          refine kz_aload_n (M := kt_M555) kX13_takes_c17.2.2.2.2.2.1 rfl ?_
          refine kz_gfc (M := kt_M555) (x := 4100) (c := 12) (o := 0) kX13_takes_c17.2.2.2.2.2.2.1 wf_X13_193 (.inl rfl) ?_
          refine kz_iload (M := kt_M555) kX13_takes_c17.2.2.2.2.2.2.2.1 rfl ?_
          refine kz_iald (M := kt_M555) (c := 12) (o := 0) (k := 28) (a := (E.2.1 4100)) kX13_takes_c18.1 ow_12_0_28 oa_12_0_28 ot_0 h (fun h => ?_)
          refine kz_iald (M := kt_M555) (c := 12) (o := 0) (k := 31) (a := (E.2.1 4103)) kX13_takes_c18.2.1 ow_12_0_31 oa_12_0_31 ot_0 h (fun h => ?_)
          refine kz_cv0 (M := kt_M555) (c := 12) (o := 0) (As := [.int x6, .int (w_a w3 12 0 31 (w_a w3 12 0 28 (x6).toNatClampNeg).toNatClampNeg)]) (rest := []) kX13_takes_c18.2.2.1 wl_X13_1443 wMv_510 rfl (.inl rfl) rfl (Nat.le_trans (Nat.le_of_ble_eq_true rfl) hL) (Nat.le_of_ble_eq_true rfl) (Nat.le_of_ble_eq_true rfl) h (fun w5 hle h => ?_) (fun _ _ _ h => kzx_no rfl h)
          have h := h hle
          exact kz_weak [(0, .ref (w_adr E.2.1 12 0)), (5, .int x5), (6, .int x6)] ⟨rfl, ⟨rfl, ⟨rfl, trivial⟩⟩⟩ rfl (zt_X13_takes_p251 hL  h)
      · skip
        refine kz_aload_n (M := kt_M555) kX13_takes_c13.1 rfl ?_
        refine kz_aload_n (M := kt_M555) kX13_takes_c13.2.1 rfl ?_
        refine kz_gfc (M := kt_M555) (x := 4101) (c := 12) (o := 0) kX13_takes_c13.2.2.1 wf_X13_196 (.inl rfl) ?_
        refine kz_iload (M := kt_M555) kX13_takes_c13.2.2.2.1 rfl ?_
        refine kz_iald (M := kt_M555) (c := 12) (o := 0) (k := 29) (a := (E.2.1 4101)) kX13_takes_c13.2.2.2.2.1 ow_12_0_29 oa_12_0_29 ot_0 h (fun h => ?_)
        refine kz_cv0 (M := kt_M555) (c := 12) (o := 0) (As := [.int (w_a w1 12 0 29 (x6).toNatClampNeg)]) (rest := []) kX13_takes_c13.2.2.2.2.2.1 wl_X13_1364 wMv_557 rfl (.inl rfl) rfl (Nat.le_trans (Nat.le_of_ble_eq_true rfl) hL) (Nat.le_of_ble_eq_true rfl) (Nat.le_of_ble_eq_true rfl) h (fun w7 hle h => ?_) (fun _ _ _ h => kzx_no rfl h)
        have h := h hle
        refine kz_aload_n (M := kt_M555) kX13_takes_c13.2.2.2.2.2.2.1 rfl ?_
        refine kz_dup (M := kt_M555) kX13_takes_c13.2.2.2.2.2.2.2.1 rfl ?_
        refine kz_gfi (M := kt_M555) (c := 12) (o := 0) kX13_takes_c14.1 wf_X13_1325 (.inl rfl) ?_
        refine kz_ic (M := kt_M555) 1 kX13_takes_c14.2.1 rfl ?_
        refine kz_isub (M := kt_M555) kX13_takes_c14.2.2.1 ?_
        refine kz_pfi (M := kt_M555) (c := 12) (o := 0) kX13_takes_c14.2.2.2.1 wq_X13_1325 (.inl rfl) ?_
        refine kz_aload_n (M := kt_M555) kX13_takes_c14.2.2.2.2.1 rfl ?_
        refine kz_aload_n (M := kt_M555) kX13_takes_c14.2.2.2.2.2.1 rfl ?_
        refine kz_gfa (M := kt_M555) (c := 12) (o := 0) kX13_takes_c14.2.2.2.2.2.2.1 wf_X13_445 (.inl rfl) ?_
        refine kz_aload_n (M := kt_M555) kX13_takes_c14.2.2.2.2.2.2.2.1 rfl ?_
        refine kz_gfiR (M := kt_M555) (c := 12) (o := 0) ((w_i w7 12 0 174) - 1) kX13_takes_c15.1 wf_X13_1325 (.inl rfl) rd_i_e ?_
        refine kz_ialdR (M := kt_M555) (n := w_n w7 12 0 175) (c := 12) (o := 0) (k := 175) (a := (w_d (ws_i w7 12 0 174 ((w_i w7 12 0 174) - 1)) 12 0 175)) (w_a w7 12 0 175 (((w_i w7 12 0 174) - 1)).toNatClampNeg) kX13_takes_c15.2.1 ow_12_0_175 oa_12_0_175 ot_0 rd_n_i rd_a_i h (fun h => ?_)
        refine kz_aload_n (M := kt_M555) kX13_takes_c15.2.2.1 rfl ?_
        refine kz_gfiR (M := kt_M555) (c := 12) (o := 0) (w_i w7 12 0 128) kX13_takes_c15.2.2.2.1 wf_X13_1388 (.inl rfl) (rd_i_i rfl) ?_
        refine kz_cv0 (M := kt_M555) (c := 12) (o := 0) (As := [.int (w_a w7 12 0 175 (((w_i w7 12 0 174) - 1)).toNatClampNeg), .int (w_i w7 12 0 128)]) (rest := []) kX13_takes_c15.2.2.2.2.1 wl_X13_1367 wMv_369 rfl (.inl rfl) rfl (Nat.le_trans (Nat.le_of_ble_eq_true rfl) hL) (Nat.le_of_ble_eq_true rfl) (Nat.le_of_ble_eq_true rfl) h (fun w9 hle h => ?_) (fun _ _ _ h => kzx_no rfl h)
        have h := h hle
        refine kz_aload_n (M := kt_M555) kX13_takes_c15.2.2.2.2.2.1 rfl ?_
        refine kz_cv0 (M := kt_M555) (c := 12) (o := 0) (As := []) (rest := []) kX13_takes_c15.2.2.2.2.2.2.1 wl_X13_1290 wMv_511 rfl (.inl rfl) rfl (Nat.le_trans (Nat.le_of_ble_eq_true rfl) hL) (Nat.le_of_ble_eq_true rfl) (Nat.le_of_ble_eq_true rfl) h (fun w11 hle h => ?_) (fun _ _ _ h => kzx_no rfl h)
        have h := h hle
        exact kz_ret (M := kt_M555) kX13_takes_c15.2.2.2.2.2.2.2.1 rfl h
    · skip
      exact kz_weak [(0, .ref (w_adr E.2.1 12 0))] ⟨rfl, trivial⟩ rfl (zt_X13_takes_p157 hL  h)
def zb_X13_takes_p59 (E : zE) (L : Nat) (Q : kx_Rs → wS → Prop) (x3 : Int32) (x4 : Int32) (x5 : Int32) (w : wS) : Prop := (kx_inb x3 (w_n w 12 0 27) = true ∧ (kx_inb (w_i w 12 0 161) (w_n w 12 0 157) = true ∧ (kx_inb (w_i w 12 0 161) (w_n w 12 0 158) = true ∧ zw E (L - 26) kt_M456 [.ref (w_adr E.2.1 12 0), .int (w_a w 12 0 157 (w_i w 12 0 161).toNatClampNeg), .int (w_a w 12 0 158 (w_i w 12 0 161).toNatClampNeg)] (ws_i w 12 0 164 (w_a w 12 0 27 (x3).toNatClampNeg)) (wk0 (fun w1 => wle (ws_i w 12 0 164 (w_a w 12 0 27 (x3).toNatClampNeg)) w1 → (kx_inb (w_i w1 12 0 161) (w_n w1 12 0 158) = true ∧ (kx_inb (w_i w1 12 0 161) (w_n w1 12 0 159) = true ∧ (kx_inb x3 (w_n w1 12 0 29) = true ∧ zw E (L - 21) kt_M511 [.ref (w_adr E.2.1 12 0)] (ws_a (ws_a w1 12 0 158 (w_i w1 12 0 161).toNatClampNeg 0) 12 0 159 (w_i w1 12 0 161).toNatClampNeg (vp_nar .boolean 0)) (wk0 (fun w3 => wle (ws_a (ws_a w1 12 0 158 (w_i w1 12 0 161).toNatClampNeg 0) 12 0 159 (w_i w1 12 0 161).toNatClampNeg (vp_nar .boolean 0)) w3 → (kx_inb x3 (w_n w3 12 0 30) = true ∧ (if w_a w3 12 0 30 (x3).toNatClampNeg < 0 then zb_X13_takes_p145 E L Q x4 x5 (w_a w1 12 0 29 (x3).toNatClampNeg) w3 else (kx_inb x3 (w_n w3 12 0 30) = true ∧ zw E (L - 25) kt_M518 [.ref (w_adr E.2.1 12 0), .int 0, .int (w_a w3 12 0 30 (x3).toNatClampNeg), .int 0, .int 0] w3 (wk0 (fun w5 => wle w3 w5 → zb_X13_takes_p145 E L Q x4 x5 (w_a w1 12 0 29 (x3).toNatClampNeg) w5) (fun e w => Q (.inr e) w)))))) (fun e w => Q (.inr e) w)))))) (fun e w => Q (.inr e) w)))))
theorem zt_X13_takes_p59 {E : zE} {L : Nat} {Q : kx_Rs → wS → Prop} {x3 : Int32} {x4 : Int32} {x5 : Int32} {w : wS} (hL : 27 ≤ L) (h : zb_X13_takes_p59 E L Q x3 x4 x5 w) : kzE E L kt_M555 59 [(0, .ref (w_adr E.2.1 12 0)), (3, .int x3), (4, .int x4), (5, .int x5)] [] w Q := by
  unfold zb_X13_takes_p59 at h
  refine kz_aload_n (M := kt_M555) kX13_takes_c4.2.2.2.2.2.1 rfl ?_
  refine kz_aload_n (M := kt_M555) kX13_takes_c4.2.2.2.2.2.2.1 rfl ?_
  refine kz_gfc (M := kt_M555) (x := 4099) (c := 12) (o := 0) kX13_takes_c4.2.2.2.2.2.2.2.1 wf_X13_190 (.inl rfl) ?_
  refine kz_iload_n (M := kt_M555) kX13_takes_c5.1 rfl ?_
  refine kz_iald (M := kt_M555) (c := 12) (o := 0) (k := 27) (a := (E.2.1 4099)) kX13_takes_c5.2.1 ow_12_0_27 oa_12_0_27 ot_0 h (fun h => ?_)
  refine kz_pfi (M := kt_M555) (c := 12) (o := 0) kX13_takes_c5.2.2.1 wq_X13_1302 (.inl rfl) ?_
  refine kz_aload_n (M := kt_M555) kX13_takes_c5.2.2.2.1 rfl ?_
  refine kz_aload_n (M := kt_M555) kX13_takes_c5.2.2.2.2.1 rfl ?_
  refine kz_gfc (M := kt_M555) (x := 4229) (c := 12) (o := 0) kX13_takes_c5.2.2.2.2.2.1 wf_X13_424 (.inl rfl) ?_
  refine kz_aload_n (M := kt_M555) kX13_takes_c5.2.2.2.2.2.2.1 rfl ?_
  refine kz_gfiR (M := kt_M555) (c := 12) (o := 0) (w_i w 12 0 161) kX13_takes_c5.2.2.2.2.2.2.2.1 wf_X13_1168 (.inl rfl) (rd_i_i rfl) ?_
  refine kz_ialdR (M := kt_M555) (n := w_n w 12 0 157) (c := 12) (o := 0) (k := 157) (a := (E.2.1 4229)) (w_a w 12 0 157 (w_i w 12 0 161).toNatClampNeg) kX13_takes_c6.1 ow_12_0_157 oa_12_0_157 ot_0 rd_n_i rd_a_i h (fun h => ?_)
  refine kz_aload_n (M := kt_M555) kX13_takes_c6.2.1 rfl ?_
  refine kz_gfc (M := kt_M555) (x := 4230) (c := 12) (o := 0) kX13_takes_c6.2.2.1 wf_X13_427 (.inl rfl) ?_
  refine kz_aload_n (M := kt_M555) kX13_takes_c6.2.2.2.1 rfl ?_
  refine kz_gfiR (M := kt_M555) (c := 12) (o := 0) (w_i w 12 0 161) kX13_takes_c6.2.2.2.2.1 wf_X13_1168 (.inl rfl) (rd_i_i rfl) ?_
  refine kz_ialdR (M := kt_M555) (n := w_n w 12 0 158) (c := 12) (o := 0) (k := 158) (a := (E.2.1 4230)) (w_a w 12 0 158 (w_i w 12 0 161).toNatClampNeg) kX13_takes_c6.2.2.2.2.2.1 ow_12_0_158 oa_12_0_158 ot_0 rd_n_i rd_a_i h (fun h => ?_)
  refine kz_cv0 (M := kt_M555) (c := 12) (o := 0) (As := [.int (w_a w 12 0 157 (w_i w 12 0 161).toNatClampNeg), .int (w_a w 12 0 158 (w_i w 12 0 161).toNatClampNeg)]) (rest := []) kX13_takes_c6.2.2.2.2.2.2.1 wl_X13_1180 wMv_456 rfl (.inl rfl) rfl (Nat.le_trans (Nat.le_of_ble_eq_true rfl) hL) (Nat.le_of_ble_eq_true rfl) (Nat.le_of_ble_eq_true rfl) h (fun w1 hle h => ?_) (fun _ _ _ h => kzx_no rfl h)
  have h := h hle
  refine kz_aload_n (M := kt_M555) kX13_takes_c6.2.2.2.2.2.2.2.1 rfl ?_
  refine kz_gfc (M := kt_M555) (x := 4230) (c := 12) (o := 0) kX13_takes_c7.1 wf_X13_427 (.inl rfl) ?_
  refine kz_aload_n (M := kt_M555) kX13_takes_c7.2.1 rfl ?_
  refine kz_gfi (M := kt_M555) (c := 12) (o := 0) kX13_takes_c7.2.2.1 wf_X13_1168 (.inl rfl) ?_
  refine kz_ic (M := kt_M555) 0 kX13_takes_c7.2.2.2.1 rfl ?_
  refine kz_iast (M := kt_M555) (c := 12) (o := 0) (k := 158) (a := (E.2.1 4230)) kX13_takes_c7.2.2.2.2.1 ow_12_0_158 oa_12_0_158 ot_0 h (fun h => ?_)
  refine kz_aload_n (M := kt_M555) kX13_takes_c7.2.2.2.2.2.1 rfl ?_
  refine kz_gfc (M := kt_M555) (x := 4231) (c := 12) (o := 0) kX13_takes_c7.2.2.2.2.2.2.1 wf_X13_430 (.inl rfl) ?_
  refine kz_aload_n (M := kt_M555) kX13_takes_c7.2.2.2.2.2.2.2.1 rfl ?_
  refine kz_gfiR (M := kt_M555) (c := 12) (o := 0) (w_i w1 12 0 161) kX13_takes_c8.1 wf_X13_1168 (.inl rfl) rd_i_a ?_
  refine kz_ic (M := kt_M555) 0 kX13_takes_c8.2.1 rfl ?_
  refine kz_zastR (M := kt_M555) (n := w_n w1 12 0 159) (c := 12) (o := 0) (k := 159) (a := (E.2.1 4231)) kX13_takes_c8.2.2.1 ow_12_0_159 oa_12_0_159 ot_2 rd_n_a h (fun h => ?_)
  refine kz_aload_n (M := kt_M555) kX13_takes_c8.2.2.2.1 rfl ?_
  refine kz_gfc (M := kt_M555) (x := 4101) (c := 12) (o := 0) kX13_takes_c8.2.2.2.2.1 wf_X13_196 (.inl rfl) ?_
  refine kz_iload_n (M := kt_M555) kX13_takes_c8.2.2.2.2.2.1 rfl ?_
  refine kz_ialdR (M := kt_M555) (n := w_n w1 12 0 29) (c := 12) (o := 0) (k := 29) (a := (E.2.1 4101)) (w_a w1 12 0 29 (x3).toNatClampNeg) kX13_takes_c8.2.2.2.2.2.2.1 ow_12_0_29 oa_12_0_29 ot_0 (rd_n_a.trans rd_n_a) ((rd_a_a rfl).trans (rd_a_a rfl)) h (fun h => ?_)
  refine kz_sti (M := kt_M555) [(0, .ref (w_adr E.2.1 12 0)), (3, .int x3), (4, .int x4), (5, .int x5)] kX13_takes_c8.2.2.2.2.2.2.2.1 (Nat.le_of_ble_eq_true rfl) ⟨⟨rfl, rfl, .inl rfl⟩, ⟨⟨rfl, rfl, .inl rfl⟩, ⟨⟨rfl, rfl, .inl rfl⟩, ⟨⟨rfl, rfl, .inr rfl⟩, trivial⟩⟩⟩⟩ rfl ?_
  refine kz_aload_n (M := kt_M555) kX13_takes_c9.1 rfl ?_
  refine kz_cv0 (M := kt_M555) (c := 12) (o := 0) (As := []) (rest := []) kX13_takes_c9.2.1 wl_X13_1290 wMv_511 rfl (.inl rfl) rfl (Nat.le_trans (Nat.le_of_ble_eq_true rfl) hL) (Nat.le_of_ble_eq_true rfl) (Nat.le_of_ble_eq_true rfl) h (fun w3 hle h => ?_) (fun _ _ _ h => kzx_no rfl h)
  have h := h hle
  refine kz_aload_n (M := kt_M555) kX13_takes_c9.2.2.1 rfl ?_
  refine kz_gfc (M := kt_M555) (x := 4102) (c := 12) (o := 0) kX13_takes_c9.2.2.2.1 wf_X13_199 (.inl rfl) ?_
  refine kz_iload_n (M := kt_M555) kX13_takes_c9.2.2.2.2.1 rfl ?_
  refine kz_iald (M := kt_M555) (c := 12) (o := 0) (k := 30) (a := (E.2.1 4102)) kX13_takes_c9.2.2.2.2.2.1 ow_12_0_30 oa_12_0_30 ot_0 h (fun h => ?_)
  refine kz_if_lt (M := kt_M555) kX13_takes_c9.2.2.2.2.2.2.1 (t := 145) rfl h (fun h => ?_) (fun h => ?_)
  · skip
    exact kz_weak [(0, .ref (w_adr E.2.1 12 0)), (4, .int x4), (5, .int x5), (6, .int (w_a w1 12 0 29 (x3).toNatClampNeg))] ⟨rfl, ⟨rfl, ⟨rfl, ⟨rfl, trivial⟩⟩⟩⟩ rfl (zt_X13_takes_p145 hL  h)
  · skip
    refine kz_aload_n (M := kt_M555) kX13_takes_c9.2.2.2.2.2.2.2.1 rfl ?_
    refine kz_ic (M := kt_M555) 0 kX13_takes_c10.1 rfl ?_
    refine kz_aload_n (M := kt_M555) kX13_takes_c10.2.1 rfl ?_
    refine kz_gfc (M := kt_M555) (x := 4102) (c := 12) (o := 0) kX13_takes_c10.2.2.1 wf_X13_199 (.inl rfl) ?_
    refine kz_iload_n (M := kt_M555) kX13_takes_c10.2.2.2.1 rfl ?_
    refine kz_iald (M := kt_M555) (c := 12) (o := 0) (k := 30) (a := (E.2.1 4102)) kX13_takes_c10.2.2.2.2.1 ow_12_0_30 oa_12_0_30 ot_0 h (fun h => ?_)
    refine kz_ic (M := kt_M555) 0 kX13_takes_c10.2.2.2.2.2.1 rfl ?_
    refine kz_ic (M := kt_M555) 0 kX13_takes_c10.2.2.2.2.2.2.1 rfl ?_
    refine kz_cv0 (M := kt_M555) (c := 12) (o := 0) (As := [.int 0, .int (w_a w3 12 0 30 (x3).toNatClampNeg), .int 0, .int 0]) (rest := []) kX13_takes_c10.2.2.2.2.2.2.2.1 wl_X13_1278 wMv_518 rfl (.inl rfl) rfl (Nat.le_trans (Nat.le_of_ble_eq_true rfl) hL) (Nat.le_of_ble_eq_true rfl) (Nat.le_of_ble_eq_true rfl) h (fun w5 hle h => ?_) (fun _ _ _ h => kzx_no rfl h)
    have h := h hle
    exact kz_weak [(0, .ref (w_adr E.2.1 12 0)), (4, .int x4), (5, .int x5), (6, .int (w_a w1 12 0 29 (x3).toNatClampNeg))] ⟨rfl, ⟨rfl, ⟨rfl, ⟨rfl, trivial⟩⟩⟩⟩ rfl (zt_X13_takes_p145 hL  h)
def zb_X13_takes_p0 (E : zE) (L : Nat) (Q : kx_Rs → wS → Prop) (x1 : Int32) (x2 : Int32) (w : wS) : Prop := zw E (L - 21) kt_M410 [.ref (w_adr E.2.1 12 0), .int x2] w (wk1 (fun v2 w1 => wle w w1 → zw E (L - 21) kt_M410 [.ref (w_adr E.2.1 12 0), .int (x2 + 2)] w1 (wk1 (fun v4 w3 => wle w1 w3 → zw E (L - 21) kt_M410 [.ref (w_adr E.2.1 12 0), .int (x2 + 3)] w3 (wk1 (fun v6 w5 => wle w3 w5 → (kx_inb x1 (w_n w5 12 0 28) = true ∧ (if w_a w5 12 0 28 (x1).toNatClampNeg < 0 then zb_X13_takes_p59 E L Q v2 v4 v6 w5 else (kx_inb x1 (w_n w5 12 0 28) = true ∧ (kx_inb (w_a w5 12 0 28 (x1).toNatClampNeg) (w_n w5 12 0 31) = true ∧ zw E (L - 21) kt_M540 [.ref (w_adr E.2.1 12 0), .int (w_a w5 12 0 31 (w_a w5 12 0 28 (x1).toNatClampNeg).toNatClampNeg)] w5 (wk1 (fun v8 w7 => wle w5 w7 → zw E (L - 21) kt_M410 [.ref (w_adr E.2.1 12 0), .int (x2 + 1)] w7 (wk1 (fun v10 w9 => wle w7 w9 → zw E (L - 22) kt_M547 [.ref (w_adr E.2.1 12 0), .int v8, .int v10] w9 (wk0 (fun w11 => wle w9 w11 → zb_X13_takes_p59 E L Q v2 v4 v6 w11) (fun e w => Q (.inr e) w))) (fun e w => Q (.inr e) w))) (fun e w => Q (.inr e) w))))))) (fun e w => Q (.inr e) w))) (fun e w => Q (.inr e) w))) (fun e w => Q (.inr e) w))
theorem zt_X13_takes_p0 {E : zE} {L : Nat} {Q : kx_Rs → wS → Prop} {x1 : Int32} {x2 : Int32} {w : wS} (hL : 27 ≤ L) (h : zb_X13_takes_p0 E L Q x1 x2 w) : kzE E L kt_M555 0 [(0, .ref (w_adr E.2.1 12 0)), (1, .int x1), (2, .int x2)] [] w Q := by
  unfold zb_X13_takes_p0 at h
  refine kz_aload_n (M := kt_M555) kX13_takes_c0.1 rfl ?_
  refine kz_iload_n (M := kt_M555) kX13_takes_c0.2.1 rfl ?_
  refine kz_cv1 (M := kt_M555) (c := 12) (o := 0) (As := [.int x2]) (rest := []) kX13_takes_c0.2.2.1 wl_X13_1177 wMv_410 rfl (.inl rfl) rfl (Nat.le_trans (Nat.le_of_ble_eq_true rfl) hL) (Nat.le_of_ble_eq_true rfl) (Nat.le_of_ble_eq_true rfl) h (fun v2 w1 hle h => ?_) (fun _ _ _ h => kzx_no rfl h)
  have h := h hle
  refine kz_sti_n (M := kt_M555) [(0, .ref (w_adr E.2.1 12 0)), (1, .int x1), (2, .int x2)] kX13_takes_c0.2.2.2.1 (Nat.le_of_ble_eq_true rfl) ⟨⟨rfl, rfl, .inl rfl⟩, ⟨⟨rfl, rfl, .inl rfl⟩, ⟨⟨rfl, rfl, .inr rfl⟩, trivial⟩⟩⟩ rfl ?_
  refine kz_aload_n (M := kt_M555) kX13_takes_c0.2.2.2.2.1 rfl ?_
  refine kz_iload_n (M := kt_M555) kX13_takes_c0.2.2.2.2.2.1 rfl ?_
  refine kz_ic (M := kt_M555) 2 kX13_takes_c0.2.2.2.2.2.2.1 rfl ?_
  refine kz_iadd (M := kt_M555) kX13_takes_c0.2.2.2.2.2.2.2.1 ?_
  refine kz_cv1 (M := kt_M555) (c := 12) (o := 0) (As := [.int (x2 + 2)]) (rest := []) kX13_takes_c1.1 wl_X13_1177 wMv_410 rfl (.inl rfl) rfl (Nat.le_trans (Nat.le_of_ble_eq_true rfl) hL) (Nat.le_of_ble_eq_true rfl) (Nat.le_of_ble_eq_true rfl) h (fun v4 w3 hle h => ?_) (fun _ _ _ h => kzx_no rfl h)
  have h := h hle
  refine kz_sti (M := kt_M555) [(0, .ref (w_adr E.2.1 12 0)), (1, .int x1), (2, .int x2), (3, .int v2)] kX13_takes_c1.2.1 (Nat.le_of_ble_eq_true rfl) ⟨⟨rfl, rfl, .inl rfl⟩, ⟨⟨rfl, rfl, .inl rfl⟩, ⟨⟨rfl, rfl, .inl rfl⟩, ⟨⟨rfl, rfl, .inr rfl⟩, trivial⟩⟩⟩⟩ rfl ?_
  refine kz_aload_n (M := kt_M555) kX13_takes_c1.2.2.1 rfl ?_
  refine kz_iload_n (M := kt_M555) kX13_takes_c1.2.2.2.1 rfl ?_
  refine kz_ic (M := kt_M555) 3 kX13_takes_c1.2.2.2.2.1 rfl ?_
  refine kz_iadd (M := kt_M555) kX13_takes_c1.2.2.2.2.2.1 ?_
  refine kz_cv1 (M := kt_M555) (c := 12) (o := 0) (As := [.int (x2 + 3)]) (rest := []) kX13_takes_c1.2.2.2.2.2.2.1 wl_X13_1177 wMv_410 rfl (.inl rfl) rfl (Nat.le_trans (Nat.le_of_ble_eq_true rfl) hL) (Nat.le_of_ble_eq_true rfl) (Nat.le_of_ble_eq_true rfl) h (fun v6 w5 hle h => ?_) (fun _ _ _ h => kzx_no rfl h)
  have h := h hle
  refine kz_sti (M := kt_M555) [(0, .ref (w_adr E.2.1 12 0)), (1, .int x1), (2, .int x2), (3, .int v2), (4, .int v4)] kX13_takes_c1.2.2.2.2.2.2.2.1 (Nat.le_of_ble_eq_true rfl) ⟨⟨rfl, rfl, .inl rfl⟩, ⟨⟨rfl, rfl, .inl rfl⟩, ⟨⟨rfl, rfl, .inl rfl⟩, ⟨⟨rfl, rfl, .inl rfl⟩, ⟨⟨rfl, rfl, .inr rfl⟩, trivial⟩⟩⟩⟩⟩ rfl ?_
  refine kz_aload_n (M := kt_M555) kX13_takes_c2.1 rfl ?_
  refine kz_gfc (M := kt_M555) (x := 4100) (c := 12) (o := 0) kX13_takes_c2.2.1 wf_X13_193 (.inl rfl) ?_
  refine kz_iload_n (M := kt_M555) kX13_takes_c2.2.2.1 rfl ?_
  refine kz_iald (M := kt_M555) (c := 12) (o := 0) (k := 28) (a := (E.2.1 4100)) kX13_takes_c2.2.2.2.1 ow_12_0_28 oa_12_0_28 ot_0 h (fun h => ?_)
  refine kz_if_lt (M := kt_M555) kX13_takes_c2.2.2.2.2.1 (t := 59) rfl h (fun h => ?_) (fun h => ?_)
  · skip
    exact kz_weak [(0, .ref (w_adr E.2.1 12 0)), (3, .int v2), (4, .int v4), (5, .int v6)] ⟨rfl, ⟨rfl, ⟨rfl, ⟨rfl, trivial⟩⟩⟩⟩ rfl (zt_X13_takes_p59 hL  h)
  · skip
    refine kz_aload_n (M := kt_M555) kX13_takes_c2.2.2.2.2.2.1 rfl ?_
    refine kz_aload_n (M := kt_M555) kX13_takes_c2.2.2.2.2.2.2.1 rfl ?_
    refine kz_aload_n (M := kt_M555) kX13_takes_c2.2.2.2.2.2.2.2.1 rfl ?_
    refine kz_gfc (M := kt_M555) (x := 4103) (c := 12) (o := 0) kX13_takes_c3.1 wf_X13_202 (.inl rfl) ?_
    refine kz_aload_n (M := kt_M555) kX13_takes_c3.2.1 rfl ?_
    refine kz_gfc (M := kt_M555) (x := 4100) (c := 12) (o := 0) kX13_takes_c3.2.2.1 wf_X13_193 (.inl rfl) ?_
    refine kz_iload_n (M := kt_M555) kX13_takes_c3.2.2.2.1 rfl ?_
    refine kz_iald (M := kt_M555) (c := 12) (o := 0) (k := 28) (a := (E.2.1 4100)) kX13_takes_c3.2.2.2.2.1 ow_12_0_28 oa_12_0_28 ot_0 h (fun h => ?_)
    refine kz_iald (M := kt_M555) (c := 12) (o := 0) (k := 31) (a := (E.2.1 4103)) kX13_takes_c3.2.2.2.2.2.1 ow_12_0_31 oa_12_0_31 ot_0 h (fun h => ?_)
    refine kz_cv1 (M := kt_M555) (c := 12) (o := 0) (As := [.int (w_a w5 12 0 31 (w_a w5 12 0 28 (x1).toNatClampNeg).toNatClampNeg)]) (rest := [.ref (w_adr E.2.1 12 0)]) kX13_takes_c3.2.2.2.2.2.2.1 wl_X13_1210 wMv_540 rfl (.inl rfl) rfl (Nat.le_trans (Nat.le_of_ble_eq_true rfl) hL) (Nat.le_of_ble_eq_true rfl) (Nat.le_of_ble_eq_true rfl) h (fun v8 w7 hle h => ?_) (fun _ _ _ h => kzx_no rfl h)
    have h := h hle
    refine kz_aload_n (M := kt_M555) kX13_takes_c3.2.2.2.2.2.2.2.1 rfl ?_
    refine kz_iload_n (M := kt_M555) kX13_takes_c4.1 rfl ?_
    refine kz_ic (M := kt_M555) 1 kX13_takes_c4.2.1 rfl ?_
    refine kz_iadd (M := kt_M555) kX13_takes_c4.2.2.1 ?_
    refine kz_cv1 (M := kt_M555) (c := 12) (o := 0) (As := [.int (x2 + 1)]) (rest := [.int v8, .ref (w_adr E.2.1 12 0)]) kX13_takes_c4.2.2.2.1 wl_X13_1177 wMv_410 rfl (.inl rfl) rfl (Nat.le_trans (Nat.le_of_ble_eq_true rfl) hL) (Nat.le_of_ble_eq_true rfl) (Nat.le_of_ble_eq_true rfl) h (fun v10 w9 hle h => ?_) (fun _ _ _ h => kzx_no rfl h)
    have h := h hle
    refine kz_cv0 (M := kt_M555) (c := 12) (o := 0) (As := [.int v8, .int v10]) (rest := []) kX13_takes_c4.2.2.2.2.1 wl_X13_1140 wMv_547 rfl (.inl rfl) rfl (Nat.le_trans (Nat.le_of_ble_eq_true rfl) hL) (Nat.le_of_ble_eq_true rfl) (Nat.le_of_ble_eq_true rfl) h (fun w11 hle h => ?_) (fun _ _ _ h => kzx_no rfl h)
    have h := h hle
    exact kz_weak [(0, .ref (w_adr E.2.1 12 0)), (3, .int v2), (4, .int v4), (5, .int v6)] ⟨rfl, ⟨rfl, ⟨rfl, ⟨rfl, trivial⟩⟩⟩⟩ rfl (zt_X13_takes_p59 hL  h)
def zb_X13_read_2_p23 (E : zE) (L : Nat) (Q : kx_Rs → wS → Prop) (x1 : Int32) (w : wS) : Prop := (kx_inb (w_i w 12 0 161) (w_n w 12 0 146) = true ∧ (kx_inb x1 (w_n w 12 0 113) = true ∧ Q (.inl none) (ws_a w 12 0 113 (x1).toNatClampNeg (w_a w 12 0 146 (w_i w 12 0 161).toNatClampNeg))))
theorem zt_X13_read_2_p23 {E : zE} {L : Nat} {Q : kx_Rs → wS → Prop} {x1 : Int32} {w : wS} (hL : 22 ≤ L) (h : zb_X13_read_2_p23 E L Q x1 w) : kzE E L kt_M521 23 [(0, .ref (w_adr E.2.1 12 0)), (1, .int x1)] [] w Q := by
  unfold zb_X13_read_2_p23 at h
  refine kz_aload_n (M := kt_M521) kX13_read_2_c1.2.2.2.2.2.1 rfl ?_
  refine kz_gfa (M := kt_M521) (c := 12) (o := 0) kX13_read_2_c1.2.2.2.2.2.2.1 wf_X13_356 (.inl rfl) ?_
  refine kz_iload_n (M := kt_M521) kX13_read_2_c1.2.2.2.2.2.2.2.1 rfl ?_
  refine kz_aload_n (M := kt_M521) kX13_read_2_c2.1 rfl ?_
  refine kz_gfc (M := kt_M521) (x := 4218) (c := 12) (o := 0) kX13_read_2_c2.2.1 wf_X13_391 (.inl rfl) ?_
  refine kz_aload_n (M := kt_M521) kX13_read_2_c2.2.2.1 rfl ?_
  refine kz_gfi (M := kt_M521) (c := 12) (o := 0) kX13_read_2_c2.2.2.2.1 wf_X13_1168 (.inl rfl) ?_
  refine kz_iald (M := kt_M521) (c := 12) (o := 0) (k := 146) (a := (E.2.1 4218)) kX13_read_2_c2.2.2.2.2.1 ow_12_0_146 oa_12_0_146 ot_0 h (fun h => ?_)
  refine kz_iast (M := kt_M521) (c := 12) (o := 0) (k := 113) (a := (w_d w 12 0 113)) kX13_read_2_c2.2.2.2.2.2.1 ow_12_0_113 oa_12_0_113 ot_0 h (fun h => ?_)
  exact kz_ret (M := kt_M521) kX13_read_2_c2.2.2.2.2.2.2.1 rfl h
def zb_X13_read_2_p0 (E : zE) (L : Nat) (Q : kx_Rs → wS → Prop) (x1 : Int32) (w : wS) : Prop := (kx_inb x1 (w_n w 12 0 113) = true ∧ zw E (L - 22) kt_M439 [.ref (w_adr E.2.1 12 0), .int (w_a w 12 0 113 (x1).toNatClampNeg)] w (wk1 (fun v2 w1 => wle w w1 → (if v2 = 0 then zb_X13_read_2_p23 E L Q x1 w1 else zb_X13_read_2_p23 E L Q x1 (ws_i w1 12 0 132 ((w_i w1 12 0 132) + 1)))) (fun e w => Q (.inr e) w)))
theorem zt_X13_read_2_p0 {E : zE} {L : Nat} {Q : kx_Rs → wS → Prop} {x1 : Int32} {w : wS} (hL : 22 ≤ L) (h : zb_X13_read_2_p0 E L Q x1 w) : kzE E L kt_M521 0 [(0, .ref (w_adr E.2.1 12 0)), (1, .int x1)] [] w Q := by
  unfold zb_X13_read_2_p0 at h
  refine kz_aload_n (M := kt_M521) kX13_read_2_c0.1 rfl ?_
  refine kz_aload_n (M := kt_M521) kX13_read_2_c0.2.1 rfl ?_
  refine kz_gfa (M := kt_M521) (c := 12) (o := 0) kX13_read_2_c0.2.2.1 wf_X13_356 (.inl rfl) ?_
  refine kz_iload_n (M := kt_M521) kX13_read_2_c0.2.2.2.1 rfl ?_
  refine kz_iald (M := kt_M521) (c := 12) (o := 0) (k := 113) (a := (w_d w 12 0 113)) kX13_read_2_c0.2.2.2.2.1 ow_12_0_113 oa_12_0_113 ot_0 h (fun h => ?_)
  refine kz_cv1 (M := kt_M521) (c := 12) (o := 0) (As := [.int (w_a w 12 0 113 (x1).toNatClampNeg)]) (rest := []) kX13_read_2_c0.2.2.2.2.2.1 wl_X13_1195 wMv_439 rfl (.inl rfl) rfl (Nat.le_trans (Nat.le_of_ble_eq_true rfl) hL) (Nat.le_of_ble_eq_true rfl) (Nat.le_of_ble_eq_true rfl) h (fun v2 w1 hle h => ?_) (fun _ _ _ h => kzx_no rfl h)
  have h := h hle
  refine kz_if_eq (M := kt_M521) kX13_read_2_c0.2.2.2.2.2.2.1 (t := 23) rfl h (fun h => ?_) (fun h => ?_)
  · skip
    exact kz_weak [(0, .ref (w_adr E.2.1 12 0)), (1, .int x1)] ⟨rfl, ⟨rfl, trivial⟩⟩ rfl (zt_X13_read_2_p23 hL  h)
  · skip
    refine kz_aload_n (M := kt_M521) kX13_read_2_c0.2.2.2.2.2.2.2.1 rfl ?_
    refine kz_dup (M := kt_M521) kX13_read_2_c1.1 rfl ?_
    refine kz_gfi (M := kt_M521) (c := 12) (o := 0) kX13_read_2_c1.2.1 wf_X13_1198 (.inl rfl) ?_
    refine kz_ic (M := kt_M521) 1 kX13_read_2_c1.2.2.1 rfl ?_
    refine kz_iadd (M := kt_M521) kX13_read_2_c1.2.2.2.1 ?_
    refine kz_pfi (M := kt_M521) (c := 12) (o := 0) kX13_read_2_c1.2.2.2.2.1 wq_X13_1198 (.inl rfl) ?_
    exact kz_weak [(0, .ref (w_adr E.2.1 12 0)), (1, .int x1)] ⟨rfl, ⟨rfl, trivial⟩⟩ rfl (zt_X13_read_2_p23 hL  h)
def zL_X13_places_p107 (E : zE) (L : Nat) (Q : kx_Rs → wS → Prop) (x3 : Int32) (x5 : Int32) (x6 : Int32) (x7 : Int32) (w : wS) : Prop := kzE E L kt_M510 107 [(0, .ref (w_adr E.2.1 12 0)), (3, .int x3), (5, .int x5), (6, .int x6), (7, .int x7)] [] w Q
def zL_X13_places_p20 (E : zE) (L : Nat) (Q : kx_Rs → wS → Prop) (x3 : Int32) (x4 : Int32) (x5 : Int32) (w : wS) : Prop := kzE E L kt_M510 20 [(0, .ref (w_adr E.2.1 12 0)), (3, .int x3), (4, .int x4), (5, .int x5)] [] w Q
def zb_X13_places_p107 (E : zE) (L : Nat) (Q : kx_Rs → wS → Prop) (x3 : Int32) (x5 : Int32) (x6 : Int32) (x7 : Int32) (w : wS) : Prop := (if x5 ≤ x7 then (kx_inb (w_i w 12 0 161) (w_n w 12 0 157) = true ∧ (kx_inb (w_i w 12 0 161) (w_n w 12 0 158) = true ∧ Q (.inl none) (ws_a (ws_a (ws_i w 12 0 174 x3) 12 0 157 (w_i w 12 0 161).toNatClampNeg x6) 12 0 158 (w_i w 12 0 161).toNatClampNeg (2 * x5)))) else (kx_inb (x3 + x7) (w_n w 12 0 175) = true ∧ zw E (L - 22) kt_M547 [.ref (w_adr E.2.1 12 0), .int (x6 + (2 * x7)), .int (w_a w 12 0 175 ((x3 + x7)).toNatClampNeg)] w (wk0 (fun w1 => wle w w1 → (kx_inb (x3 + x7) (w_n w1 12 0 176) = true ∧ zw E (L - 22) kt_M547 [.ref (w_adr E.2.1 12 0), .int ((x6 + (2 * x7)) + 1), .int (w_a w1 12 0 176 ((x3 + x7)).toNatClampNeg)] w1 (wk0 (fun w3 => wle w1 w3 → zL_X13_places_p107 E L Q x3 x5 x6 (x7 + 1) w3) (fun e w => Q (.inr e) w)))) (fun e w => Q (.inr e) w))))
theorem zt_X13_places_p107 {E : zE} {L : Nat} {Q : kx_Rs → wS → Prop} {x3 : Int32} {x5 : Int32} {x6 : Int32} {x7 : Int32} {w : wS} (hL : 23 ≤ L) (h : zb_X13_places_p107 E L Q x3 x5 x6 x7 w) : kzE E L kt_M510 107 [(0, .ref (w_adr E.2.1 12 0)), (3, .int x3), (5, .int x5), (6, .int x6), (7, .int x7)] [] w Q := by
  unfold zb_X13_places_p107 at h
  refine kz_iload (M := kt_M510) kX13_places_c7.2.2.2.1 rfl ?_
  refine kz_iload (M := kt_M510) kX13_places_c7.2.2.2.2.1 rfl ?_
  refine kz_icmp_ge (M := kt_M510) kX13_places_c7.2.2.2.2.2.1 (t := 162) rfl h (fun h => ?_) (fun h => ?_)
  · skip
    refine kz_aload_n (M := kt_M510) kX13_places_c11.2.2.2.2.1 rfl ?_
    refine kz_iload_n (M := kt_M510) kX13_places_c11.2.2.2.2.2.1 rfl ?_
    refine kz_pfi (M := kt_M510) (c := 12) (o := 0) kX13_places_c11.2.2.2.2.2.2.1 wq_X13_1325 (.inl rfl) ?_
    refine kz_aload_n (M := kt_M510) kX13_places_c11.2.2.2.2.2.2.2.1 rfl ?_
    refine kz_gfc (M := kt_M510) (x := 4229) (c := 12) (o := 0) kX13_places_c12.1 wf_X13_424 (.inl rfl) ?_
    refine kz_aload_n (M := kt_M510) kX13_places_c12.2.1 rfl ?_
    refine kz_gfiR (M := kt_M510) (c := 12) (o := 0) (w_i w 12 0 161) kX13_places_c12.2.2.1 wf_X13_1168 (.inl rfl) (rd_i_i rfl) ?_
    refine kz_iload (M := kt_M510) kX13_places_c12.2.2.2.1 rfl ?_
    refine kz_iastR (M := kt_M510) (n := w_n w 12 0 157) (c := 12) (o := 0) (k := 157) (a := (E.2.1 4229)) kX13_places_c12.2.2.2.2.1 ow_12_0_157 oa_12_0_157 ot_0 rd_n_i h (fun h => ?_)
    refine kz_aload_n (M := kt_M510) kX13_places_c12.2.2.2.2.2.1 rfl ?_
    refine kz_gfc (M := kt_M510) (x := 4230) (c := 12) (o := 0) kX13_places_c12.2.2.2.2.2.2.1 wf_X13_427 (.inl rfl) ?_
    refine kz_aload_n (M := kt_M510) kX13_places_c12.2.2.2.2.2.2.2.1 rfl ?_
    refine kz_gfiR (M := kt_M510) (c := 12) (o := 0) (w_i w 12 0 161) kX13_places_c13.1 wf_X13_1168 (.inl rfl) (rd_i_a.trans (rd_i_i rfl)) ?_
    refine kz_ic (M := kt_M510) 2 kX13_places_c13.2.1 rfl ?_
    refine kz_iload (M := kt_M510) kX13_places_c13.2.2.1 rfl ?_
    refine kz_imul (M := kt_M510) kX13_places_c13.2.2.2.1 ?_
    refine kz_iastR (M := kt_M510) (n := w_n w 12 0 158) (c := 12) (o := 0) (k := 158) (a := (E.2.1 4230)) kX13_places_c13.2.2.2.2.1 ow_12_0_158 oa_12_0_158 ot_0 (rd_n_a.trans rd_n_i) h (fun h => ?_)
    exact kz_ret (M := kt_M510) kX13_places_c13.2.2.2.2.2.1 rfl h
  · skip
    refine kz_aload_n (M := kt_M510) kX13_places_c7.2.2.2.2.2.2.1 rfl ?_
    refine kz_iload (M := kt_M510) kX13_places_c7.2.2.2.2.2.2.2.1 rfl ?_
    refine kz_ic (M := kt_M510) 2 kX13_places_c8.1 rfl ?_
    refine kz_iload (M := kt_M510) kX13_places_c8.2.1 rfl ?_
    refine kz_imul (M := kt_M510) kX13_places_c8.2.2.1 ?_
    refine kz_iadd (M := kt_M510) kX13_places_c8.2.2.2.1 ?_
    refine kz_aload_n (M := kt_M510) kX13_places_c8.2.2.2.2.1 rfl ?_
    refine kz_gfa (M := kt_M510) (c := 12) (o := 0) kX13_places_c8.2.2.2.2.2.1 wf_X13_445 (.inl rfl) ?_
    refine kz_iload_n (M := kt_M510) kX13_places_c8.2.2.2.2.2.2.1 rfl ?_
    refine kz_iload (M := kt_M510) kX13_places_c8.2.2.2.2.2.2.2.1 rfl ?_
    refine kz_iadd (M := kt_M510) kX13_places_c9.1 ?_
    refine kz_iald (M := kt_M510) (c := 12) (o := 0) (k := 175) (a := (w_d w 12 0 175)) kX13_places_c9.2.1 ow_12_0_175 oa_12_0_175 ot_0 h (fun h => ?_)
    refine kz_cv0 (M := kt_M510) (c := 12) (o := 0) (As := [.int (x6 + (2 * x7)), .int (w_a w 12 0 175 ((x3 + x7)).toNatClampNeg)]) (rest := []) kX13_places_c9.2.2.1 wl_X13_1140 wMv_547 rfl (.inl rfl) rfl (Nat.le_trans (Nat.le_of_ble_eq_true rfl) hL) (Nat.le_of_ble_eq_true rfl) (Nat.le_of_ble_eq_true rfl) h (fun w1 hle h => ?_) (fun _ _ _ h => kzx_no rfl h)
    have h := h hle
    refine kz_aload_n (M := kt_M510) kX13_places_c9.2.2.2.1 rfl ?_
    refine kz_iload (M := kt_M510) kX13_places_c9.2.2.2.2.1 rfl ?_
    refine kz_ic (M := kt_M510) 2 kX13_places_c9.2.2.2.2.2.1 rfl ?_
    refine kz_iload (M := kt_M510) kX13_places_c9.2.2.2.2.2.2.1 rfl ?_
    refine kz_imul (M := kt_M510) kX13_places_c9.2.2.2.2.2.2.2.1 ?_
    refine kz_iadd (M := kt_M510) kX13_places_c10.1 ?_
    refine kz_ic (M := kt_M510) 1 kX13_places_c10.2.1 rfl ?_
    refine kz_iadd (M := kt_M510) kX13_places_c10.2.2.1 ?_
    refine kz_aload_n (M := kt_M510) kX13_places_c10.2.2.2.1 rfl ?_
    refine kz_gfa (M := kt_M510) (c := 12) (o := 0) kX13_places_c10.2.2.2.2.1 wf_X13_448 (.inl rfl) ?_
    refine kz_iload_n (M := kt_M510) kX13_places_c10.2.2.2.2.2.1 rfl ?_
    refine kz_iload (M := kt_M510) kX13_places_c10.2.2.2.2.2.2.1 rfl ?_
    refine kz_iadd (M := kt_M510) kX13_places_c10.2.2.2.2.2.2.2.1 ?_
    refine kz_iald (M := kt_M510) (c := 12) (o := 0) (k := 176) (a := (w_d w1 12 0 176)) kX13_places_c11.1 ow_12_0_176 oa_12_0_176 ot_0 h (fun h => ?_)
    refine kz_cv0 (M := kt_M510) (c := 12) (o := 0) (As := [.int ((x6 + (2 * x7)) + 1), .int (w_a w1 12 0 176 ((x3 + x7)).toNatClampNeg)]) (rest := []) kX13_places_c11.2.1 wl_X13_1140 wMv_547 rfl (.inl rfl) rfl (Nat.le_trans (Nat.le_of_ble_eq_true rfl) hL) (Nat.le_of_ble_eq_true rfl) (Nat.le_of_ble_eq_true rfl) h (fun w3 hle h => ?_) (fun _ _ _ h => kzx_no rfl h)
    have h := h hle
    refine kz_inc (M := kt_M510) [(0, .ref (w_adr E.2.1 12 0)), (3, .int x3), (5, .int x5), (6, .int x6)] kX13_places_c11.2.2.1 rfl (Nat.le_of_ble_eq_true rfl) ⟨⟨rfl, rfl, .inl rfl⟩, ⟨⟨rfl, rfl, .inl rfl⟩, ⟨⟨rfl, rfl, .inl rfl⟩, ⟨⟨rfl, rfl, .inr rfl⟩, trivial⟩⟩⟩⟩ rfl ?_
    refine kz_goto (M := kt_M510) kX13_places_c11.2.2.2.1 (t := 107) rfl ?_
    exact kz_weak [(0, .ref (w_adr E.2.1 12 0)), (3, .int x3), (5, .int x5), (6, .int x6), (7, .int (x7 + 1))] ⟨rfl, ⟨rfl, ⟨rfl, ⟨rfl, ⟨rfl, trivial⟩⟩⟩⟩⟩ rfl h
def zb_X13_places_p20 (E : zE) (L : Nat) (Q : kx_Rs → wS → Prop) (x3 : Int32) (x4 : Int32) (x5 : Int32) (w : wS) : Prop := (if x5 < 0 then zw E (L - 23) kt_M524 [.ref (w_adr E.2.1 12 0), .int (2 * ((w_i w 12 0 174) - x3))] w (wk1 (fun v2 w1 => wle w w1 → zL_X13_places_p107 E L Q x3 ((w_i w 12 0 174) - x3) v2 0 w1) (fun e w => Q (.inr e) w)) else zw E (L - 22) kt_M557 [.ref (w_adr E.2.1 12 0), .int x5] w (wk0 (fun w3 => wle w w3 → (kx_inb ((w_i w3 12 0 174) - 1) (w_n w3 12 0 176) = true ∧ zw E (L - 21) kt_M505 [.ref (w_adr E.2.1 12 0), .int x4] w3 (wk1 (fun v6 w5 => wle w3 w5 → (if w_a w3 12 0 176 (((w_i w3 12 0 174) - 1)).toNatClampNeg = v6 then zw E (L - 21) kt_M413 [.int x4, .ref (E.2.1 4104)] w5 (wk1 (fun v8 w7 => wle w5 w7 → (kx_inb x5 (w_n w7 12 0 32) = true ∧ zL_X13_places_p20 E L Q x3 v8 (w_a w7 12 0 32 (x5).toNatClampNeg) w7)) (fun e w => Q (.inr e) w)) else zw E (L - 21) kt_M408 [.ref (w_adr E.2.1 12 0), .int 9] (ws_i w5 12 0 174 x3) (wkr (fun v10 w9 => wle (ws_i w5 12 0 174 x3) w9 → (v10 = some (w_adr E.2.1 13 0) ∧ Q (.inr "MeetingHouseModel$Halt") w9)) (fun e w => Q (.inr e) w)))) (fun e w => Q (.inr e) w)))) (fun e w => Q (.inr e) w)))
theorem zt_X13_places_p20 {E : zE} {L : Nat} {Q : kx_Rs → wS → Prop} {x3 : Int32} {x4 : Int32} {x5 : Int32} {w : wS} (hL : 23 ≤ L) (h : zb_X13_places_p20 E L Q x3 x4 x5 w) : kzE E L kt_M510 20 [(0, .ref (w_adr E.2.1 12 0)), (3, .int x3), (4, .int x4), (5, .int x5)] [] w Q := by
  unfold zb_X13_places_p20 at h
  refine kz_iload (M := kt_M510) kX13_places_c1.2.2.2.2.1 rfl ?_
  refine kz_if_lt (M := kt_M510) kX13_places_c1.2.2.2.2.2.1 (t := 86) rfl h (fun h => ?_) (fun h => ?_)
  · skip
    refine kz_aload_n (M := kt_M510) kX13_places_c5.2.2.2.2.2.2.1 rfl ?_
    refine kz_gfi (M := kt_M510) (c := 12) (o := 0) kX13_places_c5.2.2.2.2.2.2.2.1 wf_X13_1325 (.inl rfl) ?_
    refine kz_iload_n (M := kt_M510) kX13_places_c6.1 rfl ?_
    refine kz_isub (M := kt_M510) kX13_places_c6.2.1 ?_
    refine kz_sti (M := kt_M510) [(0, .ref (w_adr E.2.1 12 0)), (3, .int x3)] kX13_places_c6.2.2.1 (Nat.le_of_ble_eq_true rfl) ⟨⟨rfl, rfl, .inl rfl⟩, ⟨⟨rfl, rfl, .inl rfl⟩, trivial⟩⟩ rfl ?_
    refine kz_aload_n (M := kt_M510) kX13_places_c6.2.2.2.1 rfl ?_
    refine kz_ic (M := kt_M510) 2 kX13_places_c6.2.2.2.2.1 rfl ?_
    refine kz_iload (M := kt_M510) kX13_places_c6.2.2.2.2.2.1 rfl ?_
    refine kz_imul (M := kt_M510) kX13_places_c6.2.2.2.2.2.2.1 ?_
    refine kz_cv1 (M := kt_M510) (c := 12) (o := 0) (As := [.int (2 * ((w_i w 12 0 174) - x3))]) (rest := []) kX13_places_c6.2.2.2.2.2.2.2.1 wl_X13_1174 wMv_524 rfl (.inl rfl) rfl (Nat.le_trans (Nat.le_of_ble_eq_true rfl) hL) (Nat.le_of_ble_eq_true rfl) (Nat.le_of_ble_eq_true rfl) h (fun v2 w1 hle h => ?_) (fun _ _ _ h => kzx_no rfl h)
    have h := h hle
    refine kz_sti (M := kt_M510) [(0, .ref (w_adr E.2.1 12 0)), (3, .int x3), (5, .int ((w_i w 12 0 174) - x3))] kX13_places_c7.1 (Nat.le_of_ble_eq_true rfl) ⟨⟨rfl, rfl, .inl rfl⟩, ⟨⟨rfl, rfl, .inl rfl⟩, ⟨⟨rfl, rfl, .inr rfl⟩, trivial⟩⟩⟩ rfl ?_
    refine kz_ic (M := kt_M510) 0 kX13_places_c7.2.1 rfl ?_
    refine kz_sti (M := kt_M510) [(0, .ref (w_adr E.2.1 12 0)), (3, .int x3), (5, .int ((w_i w 12 0 174) - x3)), (6, .int v2)] kX13_places_c7.2.2.1 (Nat.le_of_ble_eq_true rfl) ⟨⟨rfl, rfl, .inl rfl⟩, ⟨⟨rfl, rfl, .inl rfl⟩, ⟨⟨rfl, rfl, .inl rfl⟩, ⟨⟨rfl, rfl, .inr rfl⟩, trivial⟩⟩⟩⟩ rfl ?_
    exact kz_weak [(0, .ref (w_adr E.2.1 12 0)), (3, .int x3), (5, .int ((w_i w 12 0 174) - x3)), (6, .int v2), (7, .int 0)] ⟨rfl, ⟨rfl, ⟨rfl, ⟨rfl, ⟨rfl, trivial⟩⟩⟩⟩⟩ rfl h
  · skip
    refine kz_aload_n (M := kt_M510) kX13_places_c1.2.2.2.2.2.2.1 rfl ?_
    refine kz_iload (M := kt_M510) kX13_places_c1.2.2.2.2.2.2.2.1 rfl ?_
    refine kz_cv0 (M := kt_M510) (c := 12) (o := 0) (As := [.int x5]) (rest := []) kX13_places_c2.1 wl_X13_1364 wMv_557 rfl (.inl rfl) rfl (Nat.le_trans (Nat.le_of_ble_eq_true rfl) hL) (Nat.le_of_ble_eq_true rfl) (Nat.le_of_ble_eq_true rfl) h (fun w3 hle h => ?_) (fun _ _ _ h => kzx_no rfl h)
    have h := h hle
    refine kz_aload_n (M := kt_M510) kX13_places_c2.2.1 rfl ?_
    refine kz_gfa (M := kt_M510) (c := 12) (o := 0) kX13_places_c2.2.2.1 wf_X13_448 (.inl rfl) ?_
    refine kz_aload_n (M := kt_M510) kX13_places_c2.2.2.2.1 rfl ?_
    refine kz_gfi (M := kt_M510) (c := 12) (o := 0) kX13_places_c2.2.2.2.2.1 wf_X13_1325 (.inl rfl) ?_
    refine kz_ic (M := kt_M510) 1 kX13_places_c2.2.2.2.2.2.1 rfl ?_
    refine kz_isub (M := kt_M510) kX13_places_c2.2.2.2.2.2.2.1 ?_
    refine kz_iald (M := kt_M510) (c := 12) (o := 0) (k := 176) (a := (w_d w3 12 0 176)) kX13_places_c2.2.2.2.2.2.2.2.1 ow_12_0_176 oa_12_0_176 ot_0 h (fun h => ?_)
    refine kz_aload_n (M := kt_M510) kX13_places_c3.1 rfl ?_
    refine kz_iload (M := kt_M510) kX13_places_c3.2.1 rfl ?_
    refine kz_cv1 (M := kt_M510) (c := 12) (o := 0) (As := [.int x4]) (rest := [.int (w_a w3 12 0 176 (((w_i w3 12 0 174) - 1)).toNatClampNeg)]) kX13_places_c3.2.2.1 wl_X13_1394 wMv_505 rfl (.inl rfl) rfl (Nat.le_trans (Nat.le_of_ble_eq_true rfl) hL) (Nat.le_of_ble_eq_true rfl) (Nat.le_of_ble_eq_true rfl) h (fun v6 w5 hle h => ?_) (fun _ _ _ h => kzx_no rfl h)
    have h := h hle
    refine kz_icmp_eq (M := kt_M510) kX13_places_c3.2.2.2.1 (t := 63) rfl h (fun h => ?_) (fun h => ?_)
    · skip
      refine kz_iload (M := kt_M510) kX13_places_c4.2.2.2.1 rfl ?_
      refine kz_aload_n (M := kt_M510) kX13_places_c4.2.2.2.2.1 rfl ?_
      refine kz_gfc (M := kt_M510) (x := 4104) (c := 12) (o := 0) kX13_places_c4.2.2.2.2.2.1 wf_X13_205 (.inl rfl) ?_
      refine kz_cs1 (M := kt_M510) (As := [.int x4, .ref (E.2.1 4104)]) (rest := []) kX13_places_c4.2.2.2.2.2.2.1 wl_X13_1397 wMs_413 rfl (Nat.le_trans (Nat.le_of_ble_eq_true rfl) hL) (Nat.le_of_ble_eq_true rfl) (Nat.le_of_ble_eq_true rfl) h (fun v8 w7 hle h => ?_) (fun _ _ _ h => kzx_no rfl h)
      have h := h hle
      refine kz_sti (M := kt_M510) [(0, .ref (w_adr E.2.1 12 0)), (3, .int x3), (5, .int x5)] kX13_places_c4.2.2.2.2.2.2.2.1 (Nat.le_of_ble_eq_true rfl) ⟨⟨rfl, rfl, .inl rfl⟩, ⟨⟨rfl, rfl, .inr rfl⟩, ⟨⟨rfl, rfl, .inl rfl⟩, trivial⟩⟩⟩ rfl ?_
      refine kz_aload_n (M := kt_M510) kX13_places_c5.1 rfl ?_
      refine kz_gfc (M := kt_M510) (x := 4104) (c := 12) (o := 0) kX13_places_c5.2.1 wf_X13_205 (.inl rfl) ?_
      refine kz_iload (M := kt_M510) kX13_places_c5.2.2.1 rfl ?_
      refine kz_iald (M := kt_M510) (c := 12) (o := 0) (k := 32) (a := (E.2.1 4104)) kX13_places_c5.2.2.2.1 ow_12_0_32 oa_12_0_32 ot_0 h (fun h => ?_)
      refine kz_sti (M := kt_M510) [(0, .ref (w_adr E.2.1 12 0)), (3, .int x3), (4, .int v8)] kX13_places_c5.2.2.2.2.1 (Nat.le_of_ble_eq_true rfl) ⟨⟨rfl, rfl, .inl rfl⟩, ⟨⟨rfl, rfl, .inl rfl⟩, ⟨⟨rfl, rfl, .inr rfl⟩, trivial⟩⟩⟩ rfl ?_
      refine kz_goto (M := kt_M510) kX13_places_c5.2.2.2.2.2.1 (t := 20) rfl ?_
      exact kz_weak [(0, .ref (w_adr E.2.1 12 0)), (3, .int x3), (4, .int v8), (5, .int (w_a w7 12 0 32 (x5).toNatClampNeg))] ⟨rfl, ⟨rfl, ⟨rfl, ⟨rfl, trivial⟩⟩⟩⟩ rfl h
    · skip
      refine kz_aload_n (M := kt_M510) kX13_places_c3.2.2.2.2.1 rfl ?_
      refine kz_iload_n (M := kt_M510) kX13_places_c3.2.2.2.2.2.1 rfl ?_
      refine kz_pfi (M := kt_M510) (c := 12) (o := 0) kX13_places_c3.2.2.2.2.2.2.1 wq_X13_1325 (.inl rfl) ?_
      refine kz_aload_n (M := kt_M510) kX13_places_c3.2.2.2.2.2.2.2.1 rfl ?_
      refine kz_bi (M := kt_M510) 9 kX13_places_c4.1 rfl ?_
      refine kz_cvr (M := kt_M510) (c := 12) (o := 0) (As := [.int 9]) (rest := []) kX13_places_c4.2.1 wl_X13_839 wMv_408 rfl (.inl rfl) rfl (Nat.le_trans (Nat.le_of_ble_eq_true rfl) hL) (Nat.le_of_ble_eq_true rfl) (Nat.le_of_ble_eq_true rfl) h (fun v10 w9 hle h => ?_) (fun _ _ _ h => kzx_no rfl h)
      have h := h hle
      exact kz_throw (M := kt_M510) (c := 13) (o := 0) kX13_places_c4.2.2.1 rfl (.inl rfl) h (fun h => kzx_no rfl h)
def zb_X13_places_p0 (E : zE) (L : Nat) (Q : kx_Rs → wS → Prop) (x1 : Int32) (x2 : Int32) (w : wS) : Prop := zw E (L - 22) kt_M508 [.ref (w_adr E.2.1 12 0), .int x2] w (wk1 (fun v2 w1 => wle w w1 → (kx_inb x1 (w_n w1 12 0 29) = true ∧ zL_X13_places_p20 E L Q (w_i w 12 0 174) v2 (w_a w1 12 0 29 (x1).toNatClampNeg) w1)) (fun e w => Q (.inr e) w))
theorem zt_X13_places_p0 {E : zE} {L : Nat} {Q : kx_Rs → wS → Prop} {x1 : Int32} {x2 : Int32} {w : wS} (hL : 23 ≤ L) (h : zb_X13_places_p0 E L Q x1 x2 w) : kzE E L kt_M510 0 [(0, .ref (w_adr E.2.1 12 0)), (1, .int x1), (2, .int x2)] [] w Q := by
  unfold zb_X13_places_p0 at h
  refine kz_aload_n (M := kt_M510) kX13_places_c0.1 rfl ?_
  refine kz_gfi (M := kt_M510) (c := 12) (o := 0) kX13_places_c0.2.1 wf_X13_1325 (.inl rfl) ?_
  refine kz_sti_n (M := kt_M510) [(0, .ref (w_adr E.2.1 12 0)), (1, .int x1), (2, .int x2)] kX13_places_c0.2.2.1 (Nat.le_of_ble_eq_true rfl) ⟨⟨rfl, rfl, .inl rfl⟩, ⟨⟨rfl, rfl, .inl rfl⟩, ⟨⟨rfl, rfl, .inr rfl⟩, trivial⟩⟩⟩ rfl ?_
  refine kz_aload_n (M := kt_M510) kX13_places_c0.2.2.2.1 rfl ?_
  refine kz_iload_n (M := kt_M510) kX13_places_c0.2.2.2.2.1 rfl ?_
  refine kz_cv1 (M := kt_M510) (c := 12) (o := 0) (As := [.int x2]) (rest := []) kX13_places_c0.2.2.2.2.2.1 wl_X13_904 wMv_508 rfl (.inl rfl) rfl (Nat.le_trans (Nat.le_of_ble_eq_true rfl) hL) (Nat.le_of_ble_eq_true rfl) (Nat.le_of_ble_eq_true rfl) h (fun v2 w1 hle h => ?_) (fun _ _ _ h => kzx_no rfl h)
  have h := h hle
  refine kz_sti (M := kt_M510) [(0, .ref (w_adr E.2.1 12 0)), (1, .int x1), (3, .int (w_i w 12 0 174))] kX13_places_c0.2.2.2.2.2.2.1 (Nat.le_of_ble_eq_true rfl) ⟨⟨rfl, rfl, .inl rfl⟩, ⟨⟨rfl, rfl, .inl rfl⟩, ⟨⟨rfl, rfl, .inr rfl⟩, trivial⟩⟩⟩ rfl ?_
  refine kz_aload_n (M := kt_M510) kX13_places_c0.2.2.2.2.2.2.2.1 rfl ?_
  refine kz_gfc (M := kt_M510) (x := 4101) (c := 12) (o := 0) kX13_places_c1.1 wf_X13_196 (.inl rfl) ?_
  refine kz_iload_n (M := kt_M510) kX13_places_c1.2.1 rfl ?_
  refine kz_iald (M := kt_M510) (c := 12) (o := 0) (k := 29) (a := (E.2.1 4101)) kX13_places_c1.2.2.1 ow_12_0_29 oa_12_0_29 ot_0 h (fun h => ?_)
  refine kz_sti (M := kt_M510) [(0, .ref (w_adr E.2.1 12 0)), (3, .int (w_i w 12 0 174)), (4, .int v2)] kX13_places_c1.2.2.2.1 (Nat.le_of_ble_eq_true rfl) ⟨⟨rfl, rfl, .inl rfl⟩, ⟨⟨rfl, rfl, .inl rfl⟩, ⟨⟨rfl, rfl, .inr rfl⟩, trivial⟩⟩⟩ rfl ?_
  exact kz_weak [(0, .ref (w_adr E.2.1 12 0)), (3, .int (w_i w 12 0 174)), (4, .int v2), (5, .int (w_a w1 12 0 29 (x1).toNatClampNeg))] ⟨rfl, ⟨rfl, ⟨rfl, ⟨rfl, trivial⟩⟩⟩⟩ rfl h
def zb_X13_input_p89 (E : zE) (L : Nat) (Q : kx_Rs → wS → Prop) (x3 : Int32) (w : wS) : Prop := (kx_inb x3 (w_n w 12 0 147) = true ∧ Q (.inl none) (ws_i (ws_i (ws_a w 12 0 147 (x3).toNatClampNeg 0) 12 0 177 x3) 12 0 178 1))
theorem zt_X13_input_p89 {E : zE} {L : Nat} {Q : kx_Rs → wS → Prop} {x3 : Int32} {w : wS} (hL : 31 ≤ L) (h : zb_X13_input_p89 E L Q x3 w) : kzE E L kt_M434 89 [(0, .ref (w_adr E.2.1 12 0)), (3, .int x3)] [] w Q := by
  unfold zb_X13_input_p89 at h
  refine kz_aload_n (M := kt_M434) kX13_input_c6.2.2.1 rfl ?_
  refine kz_gfc (M := kt_M434) (x := 4219) (c := 12) (o := 0) kX13_input_c6.2.2.2.1 wf_X13_394 (.inl rfl) ?_
  refine kz_iload_n (M := kt_M434) kX13_input_c6.2.2.2.2.1 rfl ?_
  refine kz_ic (M := kt_M434) 0 kX13_input_c6.2.2.2.2.2.1 rfl ?_
  refine kz_iast (M := kt_M434) (c := 12) (o := 0) (k := 147) (a := (E.2.1 4219)) kX13_input_c6.2.2.2.2.2.2.1 ow_12_0_147 oa_12_0_147 ot_0 h (fun h => ?_)
  refine kz_aload_n (M := kt_M434) kX13_input_c6.2.2.2.2.2.2.2.1 rfl ?_
  refine kz_iload_n (M := kt_M434) kX13_input_c7.1 rfl ?_
  refine kz_pfi (M := kt_M434) (c := 12) (o := 0) kX13_input_c7.2.1 wq_X13_1425 (.inl rfl) ?_
  refine kz_aload_n (M := kt_M434) kX13_input_c7.2.2.1 rfl ?_
  refine kz_ic (M := kt_M434) 1 kX13_input_c7.2.2.2.1 rfl ?_
  refine kz_pfz (M := kt_M434) (c := 12) (o := 0) kX13_input_c7.2.2.2.2.1 wq_X13_1454 (.inl rfl) (by decide) ?_
  exact kz_ret (M := kt_M434) kX13_input_c7.2.2.2.2.2.1 rfl h
def zb_X13_input_p60 (E : zE) (L : Nat) (Q : kx_Rs → wS → Prop) (x1 : Int32) (y0 : Int32) (w : wS) : Prop := (if 0 ≤ y0 then zw E (L - 31) kt_M522 [.ref (w_adr E.2.1 12 0), .int x1, .int y0] w (wk1 (fun v2 w1 => wle w w1 → (if v2 = 0 then zb_X13_input_p89 E L Q y0 w1 else (kx_inb (w_i w1 12 0 161) (w_n w1 12 0 147) = true ∧ zb_X13_input_p89 E L Q y0 (ws_a w1 12 0 147 (w_i w1 12 0 161).toNatClampNeg 0)))) (fun e w => Q (.inr e) w)) else Q (.inl none) w)
theorem zt_X13_input_p60 {E : zE} {L : Nat} {Q : kx_Rs → wS → Prop} {x1 : Int32} {y0 : Int32} {w : wS} (hL : 31 ≤ L) (h : zb_X13_input_p60 E L Q x1 y0 w) : kzE E L kt_M434 60 [(0, .ref (w_adr E.2.1 12 0)), (1, .int x1)] [.int y0] w Q := by
  unfold zb_X13_input_p60 at h
  refine kz_sti_n (M := kt_M434) [(0, .ref (w_adr E.2.1 12 0)), (1, .int x1)] kX13_input_c4.2.1 (Nat.le_of_ble_eq_true rfl) ⟨⟨rfl, rfl, .inl rfl⟩, ⟨⟨rfl, rfl, .inl rfl⟩, trivial⟩⟩ rfl ?_
  refine kz_iload_n (M := kt_M434) kX13_input_c4.2.2.1 rfl ?_
  refine kz_if_ge (M := kt_M434) kX13_input_c4.2.2.2.1 (t := 66) rfl h (fun h => ?_) (fun h => ?_)
  · skip
    refine kz_aload_n (M := kt_M434) kX13_input_c4.2.2.2.2.2.1 rfl ?_
    refine kz_iload_n (M := kt_M434) kX13_input_c4.2.2.2.2.2.2.1 rfl ?_
    refine kz_iload_n (M := kt_M434) kX13_input_c4.2.2.2.2.2.2.2.1 rfl ?_
    refine kz_cv1 (M := kt_M434) (c := 12) (o := 0) (As := [.int x1, .int y0]) (rest := []) kX13_input_c5.1 wl_X13_1422 wMv_522 rfl (.inl rfl) rfl (Nat.le_trans (Nat.le_of_ble_eq_true rfl) hL) (Nat.le_of_ble_eq_true rfl) (Nat.le_of_ble_eq_true rfl) h (fun v2 w1 hle h => ?_) (fun _ _ _ h => kzx_no rfl h)
    have h := h hle
    refine kz_sti (M := kt_M434) [(0, .ref (w_adr E.2.1 12 0)), (3, .int y0)] kX13_input_c5.2.1 (Nat.le_of_ble_eq_true rfl) ⟨⟨rfl, rfl, .inl rfl⟩, ⟨⟨rfl, rfl, .inr rfl⟩, trivial⟩⟩ rfl ?_
    refine kz_iload (M := kt_M434) kX13_input_c5.2.2.1 rfl ?_
    refine kz_if_eq (M := kt_M434) kX13_input_c5.2.2.2.1 (t := 89) rfl h (fun h => ?_) (fun h => ?_)
    · skip
      exact kz_weak [(0, .ref (w_adr E.2.1 12 0)), (3, .int y0)] ⟨rfl, ⟨rfl, trivial⟩⟩ rfl (zt_X13_input_p89 hL  h)
    · skip
      refine kz_aload_n (M := kt_M434) kX13_input_c5.2.2.2.2.1 rfl ?_
      refine kz_gfc (M := kt_M434) (x := 4219) (c := 12) (o := 0) kX13_input_c5.2.2.2.2.2.1 wf_X13_394 (.inl rfl) ?_
      refine kz_aload_n (M := kt_M434) kX13_input_c5.2.2.2.2.2.2.1 rfl ?_
      refine kz_gfi (M := kt_M434) (c := 12) (o := 0) kX13_input_c5.2.2.2.2.2.2.2.1 wf_X13_1168 (.inl rfl) ?_
      refine kz_ic (M := kt_M434) 0 kX13_input_c6.1 rfl ?_
      refine kz_iast (M := kt_M434) (c := 12) (o := 0) (k := 147) (a := (E.2.1 4219)) kX13_input_c6.2.1 ow_12_0_147 oa_12_0_147 ot_0 h (fun h => ?_)
      exact kz_weak [(0, .ref (w_adr E.2.1 12 0)), (3, .int y0)] ⟨rfl, ⟨rfl, trivial⟩⟩ rfl (zt_X13_input_p89 hL  h)
  · skip
    exact kz_ret (M := kt_M434) kX13_input_c4.2.2.2.2.1 rfl h
def zb_X13_input_p0 (E : zE) (L : Nat) (Q : kx_Rs → wS → Prop) (x1 : Int32) (x2 : Int32) (w : wS) : Prop := (if ¬ x2 = w_i w 12 0 140 then (kx_inb (w_i w 12 0 161) (w_n w 12 0 147) = true ∧ (if ¬ x2 = w_i w 12 0 139 then zw E (L - 23) kt_M597 [.ref (w_adr E.2.1 12 0), .int 1, .int x2] (ws_a w 12 0 147 (w_i w 12 0 161).toNatClampNeg 2) (wk1 (fun v2 w1 => wle (ws_a w 12 0 147 (w_i w 12 0 161).toNatClampNeg 2) w1 → zb_X13_input_p60 E L Q x1 v2 w1) (fun e w => Q (.inr e) w)) else zb_X13_input_p60 E L Q x1 (-1) (ws_a w 12 0 147 (w_i w 12 0 161).toNatClampNeg 2))) else (if ¬ w_i w 12 0 137 = 0 then zw E (L - 22) kt_M552 [.ref (w_adr E.2.1 12 0)] w (wk0 (fun w3 => wle w w3 → Q (.inl none) w3) (fun e w => Q (.inr e) w)) else (kx_inb (w_i w 12 0 161) (w_n w 12 0 147) = true ∧ Q (.inl none) (ws_a w 12 0 147 (w_i w 12 0 161).toNatClampNeg 6))))
theorem zt_X13_input_p0 {E : zE} {L : Nat} {Q : kx_Rs → wS → Prop} {x1 : Int32} {x2 : Int32} {w : wS} (hL : 31 ≤ L) (h : zb_X13_input_p0 E L Q x1 x2 w) : kzE E L kt_M434 0 [(0, .ref (w_adr E.2.1 12 0)), (1, .int x1), (2, .int x2)] [] w Q := by
  unfold zb_X13_input_p0 at h
  refine kz_iload_n (M := kt_M434) kX13_input_c0.1 rfl ?_
  refine kz_aload_n (M := kt_M434) kX13_input_c0.2.1 rfl ?_
  refine kz_gfi (M := kt_M434) (c := 12) (o := 0) kX13_input_c0.2.2.1 wf_X13_1410 (.inl rfl) ?_
  refine kz_icmp_ne (M := kt_M434) kX13_input_c0.2.2.2.1 (t := 32) rfl h (fun h => ?_) (fun h => ?_)
  · skip
    refine kz_aload_n (M := kt_M434) kX13_input_c2.2.1 rfl ?_
    refine kz_gfc (M := kt_M434) (x := 4219) (c := 12) (o := 0) kX13_input_c2.2.2.1 wf_X13_394 (.inl rfl) ?_
    refine kz_aload_n (M := kt_M434) kX13_input_c2.2.2.2.1 rfl ?_
    refine kz_gfi (M := kt_M434) (c := 12) (o := 0) kX13_input_c2.2.2.2.2.1 wf_X13_1168 (.inl rfl) ?_
    refine kz_ic (M := kt_M434) 2 kX13_input_c2.2.2.2.2.2.1 rfl ?_
    refine kz_iast (M := kt_M434) (c := 12) (o := 0) (k := 147) (a := (E.2.1 4219)) kX13_input_c2.2.2.2.2.2.2.1 ow_12_0_147 oa_12_0_147 ot_0 h (fun h => ?_)
    refine kz_iload_n (M := kt_M434) kX13_input_c2.2.2.2.2.2.2.2.1 rfl ?_
    refine kz_aload_n (M := kt_M434) kX13_input_c3.1 rfl ?_
    refine kz_gfiR (M := kt_M434) (c := 12) (o := 0) (w_i w 12 0 139) kX13_input_c3.2.1 wf_X13_1401 (.inl rfl) rd_i_a ?_
    refine kz_icmp_ne (M := kt_M434) kX13_input_c3.2.2.1 (t := 54) rfl h (fun h => ?_) (fun h => ?_)
    · skip
      refine kz_aload_n (M := kt_M434) kX13_input_c3.2.2.2.2.2.1 rfl ?_
      refine kz_ic (M := kt_M434) 1 kX13_input_c3.2.2.2.2.2.2.1 rfl ?_
      refine kz_iload_n (M := kt_M434) kX13_input_c3.2.2.2.2.2.2.2.1 rfl ?_
      refine kz_cv1 (M := kt_M434) (c := 12) (o := 0) (As := [.int 1, .int x2]) (rest := []) kX13_input_c4.1 wl_X13_1416 wMv_597 rfl (.inl rfl) rfl (Nat.le_trans (Nat.le_of_ble_eq_true rfl) hL) (Nat.le_of_ble_eq_true rfl) (Nat.le_of_ble_eq_true rfl) h (fun v2 w1 hle h => ?_) (fun _ _ _ h => kzx_no rfl h)
      have h := h hle
      exact kz_weak [(0, .ref (w_adr E.2.1 12 0)), (1, .int x1)] ⟨rfl, ⟨rfl, trivial⟩⟩ rfl (zt_X13_input_p60 hL  h)
    · skip
      refine kz_ic (M := kt_M434) (-1) kX13_input_c3.2.2.2.1 rfl ?_
      refine kz_goto (M := kt_M434) kX13_input_c3.2.2.2.2.1 (t := 60) rfl ?_
      exact kz_weak [(0, .ref (w_adr E.2.1 12 0)), (1, .int x1)] ⟨rfl, ⟨rfl, trivial⟩⟩ rfl (zt_X13_input_p60 hL  h)
  · skip
    refine kz_aload_n (M := kt_M434) kX13_input_c0.2.2.2.2.1 rfl ?_
    refine kz_gfi (M := kt_M434) (c := 12) (o := 0) kX13_input_c0.2.2.2.2.2.1 wf_X13_1448 (.inl rfl) ?_
    refine kz_if_ne (M := kt_M434) kX13_input_c0.2.2.2.2.2.2.1 (t := 27) rfl h (fun h => ?_) (fun h => ?_)
    · skip
      refine kz_aload_n (M := kt_M434) kX13_input_c1.2.2.2.2.2.2.1 rfl ?_
      refine kz_cv0 (M := kt_M434) (c := 12) (o := 0) (As := []) (rest := []) kX13_input_c1.2.2.2.2.2.2.2.1 wl_X13_1451 wMv_552 rfl (.inl rfl) rfl (Nat.le_trans (Nat.le_of_ble_eq_true rfl) hL) (Nat.le_of_ble_eq_true rfl) (Nat.le_of_ble_eq_true rfl) h (fun w3 hle h => ?_) (fun _ _ _ h => kzx_no rfl h)
      have h := h hle
      exact kz_ret (M := kt_M434) kX13_input_c2.1 rfl h
    · skip
      refine kz_aload_n (M := kt_M434) kX13_input_c0.2.2.2.2.2.2.2.1 rfl ?_
      refine kz_gfc (M := kt_M434) (x := 4219) (c := 12) (o := 0) kX13_input_c1.1 wf_X13_394 (.inl rfl) ?_
      refine kz_aload_n (M := kt_M434) kX13_input_c1.2.1 rfl ?_
      refine kz_gfi (M := kt_M434) (c := 12) (o := 0) kX13_input_c1.2.2.1 wf_X13_1168 (.inl rfl) ?_
      refine kz_bi (M := kt_M434) 6 kX13_input_c1.2.2.2.1 rfl ?_
      refine kz_iast (M := kt_M434) (c := 12) (o := 0) (k := 147) (a := (E.2.1 4219)) kX13_input_c1.2.2.2.2.1 ow_12_0_147 oa_12_0_147 ot_0 h (fun h => ?_)
      exact kz_ret (M := kt_M434) kX13_input_c1.2.2.2.2.2.1 rfl h
def zL_X13_takeKey_p19 (E : zE) (L : Nat) (Q : kx_Rs → wS → Prop) (x1 : Int32) (x2 : Int32) (w : wS) : Prop := kzE E L kt_M552 19 [(0, .ref (w_adr E.2.1 12 0)), (1, .int x1), (2, .int x2)] [] w Q
def zb_X13_takeKey_p19 (E : zE) (L : Nat) (Q : kx_Rs → wS → Prop) (x1 : Int32) (x2 : Int32) (w : wS) : Prop := (if w_i w 12 0 137 ≤ x2 then (kx_inb (w_i w 12 0 161) (w_n w 12 0 157) = true ∧ zw E (L - 21) kt_M410 [.ref (w_adr E.2.1 12 0), .int (w_a w 12 0 157 (w_i w 12 0 161).toNatClampNeg)] w (wk1 (fun v2 w1 => wle w w1 → zw E (L - 22) kt_M369 [.ref (w_adr E.2.1 12 0), .int v2, .int x1] w1 (wk0 (fun w3 => wle w1 w3 → (kx_inb (w_i w3 12 0 161) (w_n w3 12 0 157) = true ∧ (kx_inb (w_i w3 12 0 161) (w_n w3 12 0 158) = true ∧ zw E (L - 26) kt_M456 [.ref (w_adr E.2.1 12 0), .int (w_a w3 12 0 157 (w_i w3 12 0 161).toNatClampNeg), .int (w_a w3 12 0 158 (w_i w3 12 0 161).toNatClampNeg)] w3 (wk0 (fun w5 => wle w3 w5 → (kx_inb (w_i w5 12 0 161) (w_n w5 12 0 158) = true ∧ (kx_inb (w_i w5 12 0 161) (w_n w5 12 0 147) = true ∧ zw E (L - 21) kt_M511 [.ref (w_adr E.2.1 12 0)] (ws_a (ws_a w5 12 0 158 (w_i w5 12 0 161).toNatClampNeg 0) 12 0 147 (w_i w5 12 0 161).toNatClampNeg 0) (wk0 (fun w7 => wle (ws_a (ws_a w5 12 0 158 (w_i w5 12 0 161).toNatClampNeg 0) 12 0 147 (w_i w5 12 0 161).toNatClampNeg 0) w7 → Q (.inl none) w7) (fun e w => Q (.inr e) w))))) (fun e w => Q (.inr e) w))))) (fun e w => Q (.inr e) w))) (fun e w => Q (.inr e) w))) else (kx_inb (x2 + 1) (w_n w 12 0 138) = true ∧ (kx_inb x2 (w_n w 12 0 138) = true ∧ zL_X13_takeKey_p19 E L Q x1 (x2 + 1) (ws_a w 12 0 138 (x2).toNatClampNeg (w_a w 12 0 138 ((x2 + 1)).toNatClampNeg)))))
theorem zt_X13_takeKey_p19 {E : zE} {L : Nat} {Q : kx_Rs → wS → Prop} {x1 : Int32} {x2 : Int32} {w : wS} (hL : 26 ≤ L) (h : zb_X13_takeKey_p19 E L Q x1 x2 w) : kzE E L kt_M552 19 [(0, .ref (w_adr E.2.1 12 0)), (1, .int x1), (2, .int x2)] [] w Q := by
  unfold zb_X13_takeKey_p19 at h
  refine kz_iload_n (M := kt_M552) kX13_takeKey_c1.2.2.2.2.2.1 rfl ?_
  refine kz_aload_n (M := kt_M552) kX13_takeKey_c1.2.2.2.2.2.2.1 rfl ?_
  refine kz_gfi (M := kt_M552) (c := 12) (o := 0) kX13_takeKey_c1.2.2.2.2.2.2.2.1 wf_X13_1448 (.inl rfl) ?_
  refine kz_icmp_ge (M := kt_M552) kX13_takeKey_c2.1 (t := 47) rfl h (fun h => ?_) (fun h => ?_)
  · skip
    refine kz_aload_n (M := kt_M552) kX13_takeKey_c3.2.2.2.2.2.1 rfl ?_
    refine kz_aload_n (M := kt_M552) kX13_takeKey_c3.2.2.2.2.2.2.1 rfl ?_
    refine kz_aload_n (M := kt_M552) kX13_takeKey_c3.2.2.2.2.2.2.2.1 rfl ?_
    refine kz_gfc (M := kt_M552) (x := 4229) (c := 12) (o := 0) kX13_takeKey_c4.1 wf_X13_424 (.inl rfl) ?_
    refine kz_aload_n (M := kt_M552) kX13_takeKey_c4.2.1 rfl ?_
    refine kz_gfi (M := kt_M552) (c := 12) (o := 0) kX13_takeKey_c4.2.2.1 wf_X13_1168 (.inl rfl) ?_
    refine kz_iald (M := kt_M552) (c := 12) (o := 0) (k := 157) (a := (E.2.1 4229)) kX13_takeKey_c4.2.2.2.1 ow_12_0_157 oa_12_0_157 ot_0 h (fun h => ?_)
    refine kz_cv1 (M := kt_M552) (c := 12) (o := 0) (As := [.int (w_a w 12 0 157 (w_i w 12 0 161).toNatClampNeg)]) (rest := [.ref (w_adr E.2.1 12 0)]) kX13_takeKey_c4.2.2.2.2.1 wl_X13_1177 wMv_410 rfl (.inl rfl) rfl (Nat.le_trans (Nat.le_of_ble_eq_true rfl) hL) (Nat.le_of_ble_eq_true rfl) (Nat.le_of_ble_eq_true rfl) h (fun v2 w1 hle h => ?_) (fun _ _ _ h => kzx_no rfl h)
    have h := h hle
    refine kz_iload_n (M := kt_M552) kX13_takeKey_c4.2.2.2.2.2.1 rfl ?_
    refine kz_cv0 (M := kt_M552) (c := 12) (o := 0) (As := [.int v2, .int x1]) (rest := []) kX13_takeKey_c4.2.2.2.2.2.2.1 wl_X13_1367 wMv_369 rfl (.inl rfl) rfl (Nat.le_trans (Nat.le_of_ble_eq_true rfl) hL) (Nat.le_of_ble_eq_true rfl) (Nat.le_of_ble_eq_true rfl) h (fun w3 hle h => ?_) (fun _ _ _ h => kzx_no rfl h)
    have h := h hle
    refine kz_aload_n (M := kt_M552) kX13_takeKey_c4.2.2.2.2.2.2.2.1 rfl ?_
    refine kz_aload_n (M := kt_M552) kX13_takeKey_c5.1 rfl ?_
    refine kz_gfc (M := kt_M552) (x := 4229) (c := 12) (o := 0) kX13_takeKey_c5.2.1 wf_X13_424 (.inl rfl) ?_
    refine kz_aload_n (M := kt_M552) kX13_takeKey_c5.2.2.1 rfl ?_
    refine kz_gfi (M := kt_M552) (c := 12) (o := 0) kX13_takeKey_c5.2.2.2.1 wf_X13_1168 (.inl rfl) ?_
    refine kz_iald (M := kt_M552) (c := 12) (o := 0) (k := 157) (a := (E.2.1 4229)) kX13_takeKey_c5.2.2.2.2.1 ow_12_0_157 oa_12_0_157 ot_0 h (fun h => ?_)
    refine kz_aload_n (M := kt_M552) kX13_takeKey_c5.2.2.2.2.2.1 rfl ?_
    refine kz_gfc (M := kt_M552) (x := 4230) (c := 12) (o := 0) kX13_takeKey_c5.2.2.2.2.2.2.1 wf_X13_427 (.inl rfl) ?_
    refine kz_aload_n (M := kt_M552) kX13_takeKey_c5.2.2.2.2.2.2.2.1 rfl ?_
    refine kz_gfi (M := kt_M552) (c := 12) (o := 0) kX13_takeKey_c6.1 wf_X13_1168 (.inl rfl) ?_
    refine kz_iald (M := kt_M552) (c := 12) (o := 0) (k := 158) (a := (E.2.1 4230)) kX13_takeKey_c6.2.1 ow_12_0_158 oa_12_0_158 ot_0 h (fun h => ?_)
    refine kz_cv0 (M := kt_M552) (c := 12) (o := 0) (As := [.int (w_a w3 12 0 157 (w_i w3 12 0 161).toNatClampNeg), .int (w_a w3 12 0 158 (w_i w3 12 0 161).toNatClampNeg)]) (rest := []) kX13_takeKey_c6.2.2.1 wl_X13_1180 wMv_456 rfl (.inl rfl) rfl (Nat.le_trans (Nat.le_of_ble_eq_true rfl) hL) (Nat.le_of_ble_eq_true rfl) (Nat.le_of_ble_eq_true rfl) h (fun w5 hle h => ?_) (fun _ _ _ h => kzx_no rfl h)
    have h := h hle
    refine kz_aload_n (M := kt_M552) kX13_takeKey_c6.2.2.2.1 rfl ?_
    refine kz_gfc (M := kt_M552) (x := 4230) (c := 12) (o := 0) kX13_takeKey_c6.2.2.2.2.1 wf_X13_427 (.inl rfl) ?_
    refine kz_aload_n (M := kt_M552) kX13_takeKey_c6.2.2.2.2.2.1 rfl ?_
    refine kz_gfi (M := kt_M552) (c := 12) (o := 0) kX13_takeKey_c6.2.2.2.2.2.2.1 wf_X13_1168 (.inl rfl) ?_
    refine kz_ic (M := kt_M552) 0 kX13_takeKey_c6.2.2.2.2.2.2.2.1 rfl ?_
    refine kz_iast (M := kt_M552) (c := 12) (o := 0) (k := 158) (a := (E.2.1 4230)) kX13_takeKey_c7.1 ow_12_0_158 oa_12_0_158 ot_0 h (fun h => ?_)
    refine kz_aload_n (M := kt_M552) kX13_takeKey_c7.2.1 rfl ?_
    refine kz_gfc (M := kt_M552) (x := 4219) (c := 12) (o := 0) kX13_takeKey_c7.2.2.1 wf_X13_394 (.inl rfl) ?_
    refine kz_aload_n (M := kt_M552) kX13_takeKey_c7.2.2.2.1 rfl ?_
    refine kz_gfiR (M := kt_M552) (c := 12) (o := 0) (w_i w5 12 0 161) kX13_takeKey_c7.2.2.2.2.1 wf_X13_1168 (.inl rfl) rd_i_a ?_
    refine kz_ic (M := kt_M552) 0 kX13_takeKey_c7.2.2.2.2.2.1 rfl ?_
    refine kz_iastR (M := kt_M552) (n := w_n w5 12 0 147) (c := 12) (o := 0) (k := 147) (a := (E.2.1 4219)) kX13_takeKey_c7.2.2.2.2.2.2.1 ow_12_0_147 oa_12_0_147 ot_0 rd_n_a h (fun h => ?_)
    refine kz_aload_n (M := kt_M552) kX13_takeKey_c7.2.2.2.2.2.2.2.1 rfl ?_
    refine kz_cv0 (M := kt_M552) (c := 12) (o := 0) (As := []) (rest := []) kX13_takeKey_c8.1 wl_X13_1290 wMv_511 rfl (.inl rfl) rfl (Nat.le_trans (Nat.le_of_ble_eq_true rfl) hL) (Nat.le_of_ble_eq_true rfl) (Nat.le_of_ble_eq_true rfl) h (fun w7 hle h => ?_) (fun _ _ _ h => kzx_no rfl h)
    have h := h hle
    exact kz_ret (M := kt_M552) kX13_takeKey_c8.2.1 rfl h
  · skip
    refine kz_aload_n (M := kt_M552) kX13_takeKey_c2.2.1 rfl ?_
    refine kz_gfc (M := kt_M552) (x := 4210) (c := 12) (o := 0) kX13_takeKey_c2.2.2.1 wf_X13_379 (.inl rfl) ?_
    refine kz_iload_n (M := kt_M552) kX13_takeKey_c2.2.2.2.1 rfl ?_
    refine kz_aload_n (M := kt_M552) kX13_takeKey_c2.2.2.2.2.1 rfl ?_
    refine kz_gfc (M := kt_M552) (x := 4210) (c := 12) (o := 0) kX13_takeKey_c2.2.2.2.2.2.1 wf_X13_379 (.inl rfl) ?_
    refine kz_iload_n (M := kt_M552) kX13_takeKey_c2.2.2.2.2.2.2.1 rfl ?_
    refine kz_ic (M := kt_M552) 1 kX13_takeKey_c2.2.2.2.2.2.2.2.1 rfl ?_
    refine kz_iadd (M := kt_M552) kX13_takeKey_c3.1 ?_
    refine kz_iald (M := kt_M552) (c := 12) (o := 0) (k := 138) (a := (E.2.1 4210)) kX13_takeKey_c3.2.1 ow_12_0_138 oa_12_0_138 ot_0 h (fun h => ?_)
    refine kz_iast (M := kt_M552) (c := 12) (o := 0) (k := 138) (a := (E.2.1 4210)) kX13_takeKey_c3.2.2.1 ow_12_0_138 oa_12_0_138 ot_0 h (fun h => ?_)
    refine kz_inc (M := kt_M552) [(0, .ref (w_adr E.2.1 12 0)), (1, .int x1)] kX13_takeKey_c3.2.2.2.1 rfl (Nat.le_of_ble_eq_true rfl) ⟨⟨rfl, rfl, .inl rfl⟩, ⟨⟨rfl, rfl, .inr rfl⟩, trivial⟩⟩ rfl ?_
    refine kz_goto (M := kt_M552) kX13_takeKey_c3.2.2.2.2.1 (t := 19) rfl ?_
    exact kz_weak [(0, .ref (w_adr E.2.1 12 0)), (1, .int x1), (2, .int (x2 + 1))] ⟨rfl, ⟨rfl, ⟨rfl, trivial⟩⟩⟩ rfl h
def zb_X13_takeKey_p0 (E : zE) (L : Nat) (Q : kx_Rs → wS → Prop) (w : wS) : Prop := (kx_inb 0 (w_n w 12 0 138) = true ∧ zL_X13_takeKey_p19 E L Q (w_a w 12 0 138 (0 : Int32).toNatClampNeg) 0 (ws_i w 12 0 137 ((w_i w 12 0 137) - 1)))
theorem zt_X13_takeKey_p0 {E : zE} {L : Nat} {Q : kx_Rs → wS → Prop} {w : wS} (hL : 26 ≤ L) (h : zb_X13_takeKey_p0 E L Q  w) : kzE E L kt_M552 0 [(0, .ref (w_adr E.2.1 12 0))] [] w Q := by
  unfold zb_X13_takeKey_p0 at h
  refine kz_aload_n (M := kt_M552) kX13_takeKey_c0.1 rfl ?_
  refine kz_gfc (M := kt_M552) (x := 4210) (c := 12) (o := 0) kX13_takeKey_c0.2.1 wf_X13_379 (.inl rfl) ?_
  refine kz_ic (M := kt_M552) 0 kX13_takeKey_c0.2.2.1 rfl ?_
  refine kz_iald (M := kt_M552) (c := 12) (o := 0) (k := 138) (a := (E.2.1 4210)) kX13_takeKey_c0.2.2.2.1 ow_12_0_138 oa_12_0_138 ot_0 h (fun h => ?_)
  refine kz_sti_n (M := kt_M552) [(0, .ref (w_adr E.2.1 12 0))] kX13_takeKey_c0.2.2.2.2.1 (Nat.le_of_ble_eq_true rfl) ⟨⟨rfl, rfl, .inr rfl⟩, trivial⟩ rfl ?_
  refine kz_aload_n (M := kt_M552) kX13_takeKey_c0.2.2.2.2.2.1 rfl ?_
  refine kz_dup (M := kt_M552) kX13_takeKey_c0.2.2.2.2.2.2.1 rfl ?_
  refine kz_gfi (M := kt_M552) (c := 12) (o := 0) kX13_takeKey_c0.2.2.2.2.2.2.2.1 wf_X13_1448 (.inl rfl) ?_
  refine kz_ic (M := kt_M552) 1 kX13_takeKey_c1.1 rfl ?_
  refine kz_isub (M := kt_M552) kX13_takeKey_c1.2.1 ?_
  refine kz_pfi (M := kt_M552) (c := 12) (o := 0) kX13_takeKey_c1.2.2.1 wq_X13_1448 (.inl rfl) ?_
  refine kz_ic (M := kt_M552) 0 kX13_takeKey_c1.2.2.2.1 rfl ?_
  refine kz_sti_n (M := kt_M552) [(0, .ref (w_adr E.2.1 12 0)), (1, .int (w_a w 12 0 138 (0 : Int32).toNatClampNeg))] kX13_takeKey_c1.2.2.2.2.1 (Nat.le_of_ble_eq_true rfl) ⟨⟨rfl, rfl, .inl rfl⟩, ⟨⟨rfl, rfl, .inr rfl⟩, trivial⟩⟩ rfl ?_
  exact kz_weak [(0, .ref (w_adr E.2.1 12 0)), (1, .int (w_a w 12 0 138 (0 : Int32).toNatClampNeg)), (2, .int 0)] ⟨rfl, ⟨rfl, ⟨rfl, trivial⟩⟩⟩ rfl h
def zb_X13_ask_p96 (E : zE) (L : Nat) (Q : kx_Rs → wS → Prop) (x1 : Int32) (x3 : Int32) (w : wS) : Prop := (kx_inb (w_i w 12 0 161) (w_n w 12 0 155) = true ∧ zw E (L - 24) kt_M434 [.ref (w_adr E.2.1 12 0), .int x1, .int x3] (ws_a w 12 0 155 (w_i w 12 0 161).toNatClampNeg x3) (wk0 (fun w1 => wle (ws_a w 12 0 155 (w_i w 12 0 161).toNatClampNeg x3) w1 → Q (.inl none) w1) (fun e w => Q (.inr e) w)))
theorem zt_X13_ask_p96 {E : zE} {L : Nat} {Q : kx_Rs → wS → Prop} {x1 : Int32} {x3 : Int32} {w : wS} (hL : 27 ≤ L) (h : zb_X13_ask_p96 E L Q x1 x3 w) : kzE E L kt_M353 96 [(0, .ref (w_adr E.2.1 12 0)), (1, .int x1), (3, .int x3)] [] w Q := by
  unfold zb_X13_ask_p96 at h
  refine kz_aload_n (M := kt_M353) kX13_ask_c7.2.2.1 rfl ?_
  refine kz_gfc (M := kt_M353) (x := 4227) (c := 12) (o := 0) kX13_ask_c7.2.2.2.1 wf_X13_418 (.inl rfl) ?_
  refine kz_aload_n (M := kt_M353) kX13_ask_c7.2.2.2.2.1 rfl ?_
  refine kz_gfi (M := kt_M353) (c := 12) (o := 0) kX13_ask_c7.2.2.2.2.2.1 wf_X13_1168 (.inl rfl) ?_
  refine kz_iload_n (M := kt_M353) kX13_ask_c7.2.2.2.2.2.2.1 rfl ?_
  refine kz_iast (M := kt_M353) (c := 12) (o := 0) (k := 155) (a := (E.2.1 4227)) kX13_ask_c7.2.2.2.2.2.2.2.1 ow_12_0_155 oa_12_0_155 ot_0 h (fun h => ?_)
  refine kz_aload_n (M := kt_M353) kX13_ask_c8.1 rfl ?_
  refine kz_iload_n (M := kt_M353) kX13_ask_c8.2.1 rfl ?_
  refine kz_iload_n (M := kt_M353) kX13_ask_c8.2.2.1 rfl ?_
  refine kz_cv0 (M := kt_M353) (c := 12) (o := 0) (As := [.int x1, .int x3]) (rest := []) kX13_ask_c8.2.2.2.1 wl_X13_1446 wMv_434 rfl (.inl rfl) rfl (Nat.le_trans (Nat.le_of_ble_eq_true rfl) hL) (Nat.le_of_ble_eq_true rfl) (Nat.le_of_ble_eq_true rfl) h (fun w1 hle h => ?_) (fun _ _ _ h => kzx_no rfl h)
  have h := h hle
  exact kz_ret (M := kt_M353) kX13_ask_c8.2.2.2.2.1 rfl h
def zb_X13_ask_p0 (E : zE) (L : Nat) (Q : kx_Rs → wS → Prop) (x1 : Int32) (w : wS) : Prop := (kx_inb x1 (w_n w 12 0 28) = true ∧ (kx_inb (w_a w 12 0 28 (x1).toNatClampNeg) (w_n w 12 0 31) = true ∧ (kx_inb (w_a w 12 0 31 (w_a w 12 0 28 (x1).toNatClampNeg).toNatClampNeg) (w_n w 12 0 46) = true ∧ (if ¬ w_a w 12 0 46 (w_a w 12 0 31 (w_a w 12 0 28 (x1).toNatClampNeg).toNatClampNeg).toNatClampNeg = 4 then (kx_inb x1 (w_n w 12 0 28) = true ∧ zw E (L - 21) kt_M370 [.ref (w_adr E.2.1 12 0), .int (w_a w 12 0 28 (x1).toNatClampNeg)] w (wk1 (fun v2 w1 => wle w w1 → zw E (L - 21) kt_M521 [.ref (w_adr E.2.1 12 0), .int v2] w1 (wk0 (fun w3 => wle w1 w3 → (kx_inb x1 (w_n w3 12 0 26) = true ∧ (if ¬ w_a w3 12 0 26 (x1).toNatClampNeg = 5 then zb_X13_ask_p96 E L Q x1 v2 w3 else zw E (L - 27) kt_M510 [.ref (w_adr E.2.1 12 0), .int x1, .int (w_a w 12 0 31 (w_a w 12 0 28 (x1).toNatClampNeg).toNatClampNeg)] w3 (wk0 (fun w5 => wle w3 w5 → zb_X13_ask_p96 E L Q x1 v2 w5) (fun e w => Q (.inr e) w))))) (fun e w => Q (.inr e) w))) (fun e w => Q (.inr e) w))) else (kx_inb x1 (w_n w 12 0 29) = true ∧ zw E (L - 22) kt_M557 [.ref (w_adr E.2.1 12 0), .int (w_a w 12 0 29 (x1).toNatClampNeg)] w (wk0 (fun w7 => wle w w7 → (kx_inb ((w_i w7 12 0 174) - 1) (w_n w7 12 0 175) = true ∧ zw E (L - 22) kt_M369 [.ref (w_adr E.2.1 12 0), .int (w_a w7 12 0 175 (((w_i w7 12 0 174) - 1)).toNatClampNeg), .int (w_i w7 12 0 128)] (ws_i w7 12 0 174 ((w_i w7 12 0 174) - 1)) (wk0 (fun w9 => wle (ws_i w7 12 0 174 ((w_i w7 12 0 174) - 1)) w9 → zw E (L - 21) kt_M511 [.ref (w_adr E.2.1 12 0)] w9 (wk0 (fun w11 => wle w9 w11 → Q (.inl none) w11) (fun e w => Q (.inr e) w))) (fun e w => Q (.inr e) w)))) (fun e w => Q (.inr e) w)))))))
theorem zt_X13_ask_p0 {E : zE} {L : Nat} {Q : kx_Rs → wS → Prop} {x1 : Int32} {w : wS} (hL : 27 ≤ L) (h : zb_X13_ask_p0 E L Q x1 w) : kzE E L kt_M353 0 [(0, .ref (w_adr E.2.1 12 0)), (1, .int x1)] [] w Q := by
  unfold zb_X13_ask_p0 at h
  refine kz_aload_n (M := kt_M353) kX13_ask_c0.1 rfl ?_
  refine kz_gfc (M := kt_M353) (x := 4103) (c := 12) (o := 0) kX13_ask_c0.2.1 wf_X13_202 (.inl rfl) ?_
  refine kz_aload_n (M := kt_M353) kX13_ask_c0.2.2.1 rfl ?_
  refine kz_gfc (M := kt_M353) (x := 4100) (c := 12) (o := 0) kX13_ask_c0.2.2.2.1 wf_X13_193 (.inl rfl) ?_
  refine kz_iload_n (M := kt_M353) kX13_ask_c0.2.2.2.2.1 rfl ?_
  refine kz_iald (M := kt_M353) (c := 12) (o := 0) (k := 28) (a := (E.2.1 4100)) kX13_ask_c0.2.2.2.2.2.1 ow_12_0_28 oa_12_0_28 ot_0 h (fun h => ?_)
  refine kz_iald (M := kt_M353) (c := 12) (o := 0) (k := 31) (a := (E.2.1 4103)) kX13_ask_c0.2.2.2.2.2.2.1 ow_12_0_31 oa_12_0_31 ot_0 h (fun h => ?_)
  refine kz_sti_n (M := kt_M353) [(0, .ref (w_adr E.2.1 12 0)), (1, .int x1)] kX13_ask_c0.2.2.2.2.2.2.2.1 (Nat.le_of_ble_eq_true rfl) ⟨⟨rfl, rfl, .inl rfl⟩, ⟨⟨rfl, rfl, .inr rfl⟩, trivial⟩⟩ rfl ?_
  refine kz_aload_n (M := kt_M353) kX13_ask_c1.1 rfl ?_
  refine kz_gfc (M := kt_M353) (x := 4118) (c := 12) (o := 0) kX13_ask_c1.2.1 wf_X13_223 (.inl rfl) ?_
  refine kz_iload_n (M := kt_M353) kX13_ask_c1.2.2.1 rfl ?_
  refine kz_iald (M := kt_M353) (c := 12) (o := 0) (k := 46) (a := (E.2.1 4118)) kX13_ask_c1.2.2.2.1 ow_12_0_46 oa_12_0_46 ot_0 h (fun h => ?_)
  refine kz_ic (M := kt_M353) 4 kX13_ask_c1.2.2.2.2.1 rfl ?_
  refine kz_icmp_ne (M := kt_M353) kX13_ask_c1.2.2.2.2.2.1 (t := 64) rfl h (fun h => ?_) (fun h => ?_)
  · skip
    refine kz_aload_n (M := kt_M353) kX13_ask_c4.2.2.2.2.2.2.1 rfl ?_
    refine kz_aload_n (M := kt_M353) kX13_ask_c4.2.2.2.2.2.2.2.1 rfl ?_
    refine kz_gfc (M := kt_M353) (x := 4100) (c := 12) (o := 0) kX13_ask_c5.1 wf_X13_193 (.inl rfl) ?_
    refine kz_iload_n (M := kt_M353) kX13_ask_c5.2.1 rfl ?_
    refine kz_iald (M := kt_M353) (c := 12) (o := 0) (k := 28) (a := (E.2.1 4100)) kX13_ask_c5.2.2.1 ow_12_0_28 oa_12_0_28 ot_0 h (fun h => ?_)
    refine kz_cv1 (M := kt_M353) (c := 12) (o := 0) (As := [.int (w_a w 12 0 28 (x1).toNatClampNeg)]) (rest := []) kX13_ask_c5.2.2.2.1 wl_X13_1391 wMv_370 rfl (.inl rfl) rfl (Nat.le_trans (Nat.le_of_ble_eq_true rfl) hL) (Nat.le_of_ble_eq_true rfl) (Nat.le_of_ble_eq_true rfl) h (fun v2 w1 hle h => ?_) (fun _ _ _ h => kzx_no rfl h)
    have h := h hle
    refine kz_sti_n (M := kt_M353) [(0, .ref (w_adr E.2.1 12 0)), (1, .int x1), (2, .int (w_a w 12 0 31 (w_a w 12 0 28 (x1).toNatClampNeg).toNatClampNeg))] kX13_ask_c5.2.2.2.2.1 (Nat.le_of_ble_eq_true rfl) ⟨⟨rfl, rfl, .inl rfl⟩, ⟨⟨rfl, rfl, .inl rfl⟩, ⟨⟨rfl, rfl, .inr rfl⟩, trivial⟩⟩⟩ rfl ?_
    refine kz_aload_n (M := kt_M353) kX13_ask_c5.2.2.2.2.2.1 rfl ?_
    refine kz_iload_n (M := kt_M353) kX13_ask_c5.2.2.2.2.2.2.1 rfl ?_
    refine kz_cv0 (M := kt_M353) (c := 12) (o := 0) (As := [.int v2]) (rest := []) kX13_ask_c5.2.2.2.2.2.2.2.1 wl_X13_1440 wMv_521 rfl (.inl rfl) rfl (Nat.le_trans (Nat.le_of_ble_eq_true rfl) hL) (Nat.le_of_ble_eq_true rfl) (Nat.le_of_ble_eq_true rfl) h (fun w3 hle h => ?_) (fun _ _ _ h => kzx_no rfl h)
    have h := h hle
    refine kz_aload_n (M := kt_M353) kX13_ask_c6.1 rfl ?_
    refine kz_gfc (M := kt_M353) (x := 4098) (c := 12) (o := 0) kX13_ask_c6.2.1 wf_X13_187 (.inl rfl) ?_
    refine kz_iload_n (M := kt_M353) kX13_ask_c6.2.2.1 rfl ?_
    refine kz_iald (M := kt_M353) (c := 12) (o := 0) (k := 26) (a := (E.2.1 4098)) kX13_ask_c6.2.2.2.1 ow_12_0_26 oa_12_0_26 ot_0 h (fun h => ?_)
    refine kz_ic (M := kt_M353) 5 kX13_ask_c6.2.2.2.2.1 rfl ?_
    refine kz_icmp_ne (M := kt_M353) kX13_ask_c6.2.2.2.2.2.1 (t := 96) rfl h (fun h => ?_) (fun h => ?_)
    · skip
      exact kz_weak [(0, .ref (w_adr E.2.1 12 0)), (1, .int x1), (3, .int v2)] ⟨rfl, ⟨rfl, ⟨rfl, trivial⟩⟩⟩ rfl (zt_X13_ask_p96 hL  h)
    · skip
      refine kz_aload_n (M := kt_M353) kX13_ask_c6.2.2.2.2.2.2.1 rfl ?_
      refine kz_iload_n (M := kt_M353) kX13_ask_c6.2.2.2.2.2.2.2.1 rfl ?_
      refine kz_iload_n (M := kt_M353) kX13_ask_c7.1 rfl ?_
      refine kz_cv0 (M := kt_M353) (c := 12) (o := 0) (As := [.int x1, .int (w_a w 12 0 31 (w_a w 12 0 28 (x1).toNatClampNeg).toNatClampNeg)]) (rest := []) kX13_ask_c7.2.1 wl_X13_1443 wMv_510 rfl (.inl rfl) rfl (Nat.le_trans (Nat.le_of_ble_eq_true rfl) hL) (Nat.le_of_ble_eq_true rfl) (Nat.le_of_ble_eq_true rfl) h (fun w5 hle h => ?_) (fun _ _ _ h => kzx_no rfl h)
      have h := h hle
      exact kz_weak [(0, .ref (w_adr E.2.1 12 0)), (1, .int x1), (3, .int v2)] ⟨rfl, ⟨rfl, ⟨rfl, trivial⟩⟩⟩ rfl (zt_X13_ask_p96 hL  h)
  · skip
    refine kz_aload_n (M := kt_M353) kX13_ask_c1.2.2.2.2.2.2.1 rfl ?_
    refine kz_aload_n (M := kt_M353) kX13_ask_c1.2.2.2.2.2.2.2.1 rfl ?_
    refine kz_gfc (M := kt_M353) (x := 4101) (c := 12) (o := 0) kX13_ask_c2.1 wf_X13_196 (.inl rfl) ?_
    refine kz_iload_n (M := kt_M353) kX13_ask_c2.2.1 rfl ?_
    refine kz_iald (M := kt_M353) (c := 12) (o := 0) (k := 29) (a := (E.2.1 4101)) kX13_ask_c2.2.2.1 ow_12_0_29 oa_12_0_29 ot_0 h (fun h => ?_)
    refine kz_cv0 (M := kt_M353) (c := 12) (o := 0) (As := [.int (w_a w 12 0 29 (x1).toNatClampNeg)]) (rest := []) kX13_ask_c2.2.2.2.1 wl_X13_1364 wMv_557 rfl (.inl rfl) rfl (Nat.le_trans (Nat.le_of_ble_eq_true rfl) hL) (Nat.le_of_ble_eq_true rfl) (Nat.le_of_ble_eq_true rfl) h (fun w7 hle h => ?_) (fun _ _ _ h => kzx_no rfl h)
    have h := h hle
    refine kz_aload_n (M := kt_M353) kX13_ask_c2.2.2.2.2.1 rfl ?_
    refine kz_dup (M := kt_M353) kX13_ask_c2.2.2.2.2.2.1 rfl ?_
    refine kz_gfi (M := kt_M353) (c := 12) (o := 0) kX13_ask_c2.2.2.2.2.2.2.1 wf_X13_1325 (.inl rfl) ?_
    refine kz_ic (M := kt_M353) 1 kX13_ask_c2.2.2.2.2.2.2.2.1 rfl ?_
    refine kz_isub (M := kt_M353) kX13_ask_c3.1 ?_
    refine kz_pfi (M := kt_M353) (c := 12) (o := 0) kX13_ask_c3.2.1 wq_X13_1325 (.inl rfl) ?_
    refine kz_aload_n (M := kt_M353) kX13_ask_c3.2.2.1 rfl ?_
    refine kz_aload_n (M := kt_M353) kX13_ask_c3.2.2.2.1 rfl ?_
    refine kz_gfa (M := kt_M353) (c := 12) (o := 0) kX13_ask_c3.2.2.2.2.1 wf_X13_445 (.inl rfl) ?_
    refine kz_aload_n (M := kt_M353) kX13_ask_c3.2.2.2.2.2.1 rfl ?_
    refine kz_gfiR (M := kt_M353) (c := 12) (o := 0) ((w_i w7 12 0 174) - 1) kX13_ask_c3.2.2.2.2.2.2.1 wf_X13_1325 (.inl rfl) rd_i_e ?_
    refine kz_ialdR (M := kt_M353) (n := w_n w7 12 0 175) (c := 12) (o := 0) (k := 175) (a := (w_d (ws_i w7 12 0 174 ((w_i w7 12 0 174) - 1)) 12 0 175)) (w_a w7 12 0 175 (((w_i w7 12 0 174) - 1)).toNatClampNeg) kX13_ask_c3.2.2.2.2.2.2.2.1 ow_12_0_175 oa_12_0_175 ot_0 rd_n_i rd_a_i h (fun h => ?_)
    refine kz_aload_n (M := kt_M353) kX13_ask_c4.1 rfl ?_
    refine kz_gfiR (M := kt_M353) (c := 12) (o := 0) (w_i w7 12 0 128) kX13_ask_c4.2.1 wf_X13_1388 (.inl rfl) (rd_i_i rfl) ?_
    refine kz_cv0 (M := kt_M353) (c := 12) (o := 0) (As := [.int (w_a w7 12 0 175 (((w_i w7 12 0 174) - 1)).toNatClampNeg), .int (w_i w7 12 0 128)]) (rest := []) kX13_ask_c4.2.2.1 wl_X13_1367 wMv_369 rfl (.inl rfl) rfl (Nat.le_trans (Nat.le_of_ble_eq_true rfl) hL) (Nat.le_of_ble_eq_true rfl) (Nat.le_of_ble_eq_true rfl) h (fun w9 hle h => ?_) (fun _ _ _ h => kzx_no rfl h)
    have h := h hle
    refine kz_aload_n (M := kt_M353) kX13_ask_c4.2.2.2.1 rfl ?_
    refine kz_cv0 (M := kt_M353) (c := 12) (o := 0) (As := []) (rest := []) kX13_ask_c4.2.2.2.2.1 wl_X13_1290 wMv_511 rfl (.inl rfl) rfl (Nat.le_trans (Nat.le_of_ble_eq_true rfl) hL) (Nat.le_of_ble_eq_true rfl) (Nat.le_of_ble_eq_true rfl) h (fun w11 hle h => ?_) (fun _ _ _ h => kzx_no rfl h)
    have h := h hle
    exact kz_ret (M := kt_M353) kX13_ask_c4.2.2.2.2.2.1 rfl h
def zL_X13_closes_p35 (E : zE) (L : Nat) (Q : kx_Rs → wS → Prop) (x2 : Int32) (x3 : Int32) (w : wS) : Prop := kzE E L kt_M374 35 [(0, .ref (w_adr E.2.1 12 0)), (2, .int x2), (3, .int x3)] [] w Q
def zL_X13_closes_p2 (E : zE) (L : Nat) (Q : kx_Rs → wS → Prop) (x2 : Int32) (w : wS) : Prop := kzE E L kt_M374 2 [(0, .ref (w_adr E.2.1 12 0)), (2, .int x2)] [] w Q
def zb_X13_closes_p94 (E : zE) (L : Nat) (Q : kx_Rs → wS → Prop) (x2 : Int32) (w : wS) : Prop := (kx_inb x2 (w_n w 12 0 32) = true ∧ zL_X13_closes_p2 E L Q (w_a w 12 0 32 (x2).toNatClampNeg) w)
theorem zt_X13_closes_p94 {E : zE} {L : Nat} {Q : kx_Rs → wS → Prop} {x2 : Int32} {w : wS} (hL : 23 ≤ L) (h : zb_X13_closes_p94 E L Q x2 w) : kzE E L kt_M374 94 [(0, .ref (w_adr E.2.1 12 0)), (2, .int x2)] [] w Q := by
  unfold zb_X13_closes_p94 at h
  refine kz_aload_n (M := kt_M374) kX13_closes_c6.2.2.2.2.2.2.2.1 rfl ?_
  refine kz_gfc (M := kt_M374) (x := 4104) (c := 12) (o := 0) kX13_closes_c7.1 wf_X13_205 (.inl rfl) ?_
  refine kz_iload_n (M := kt_M374) kX13_closes_c7.2.1 rfl ?_
  refine kz_iald (M := kt_M374) (c := 12) (o := 0) (k := 32) (a := (E.2.1 4104)) kX13_closes_c7.2.2.1 ow_12_0_32 oa_12_0_32 ot_0 h (fun h => ?_)
  refine kz_sti_n (M := kt_M374) [(0, .ref (w_adr E.2.1 12 0))] kX13_closes_c7.2.2.2.1 (Nat.le_of_ble_eq_true rfl) ⟨⟨rfl, rfl, .inl rfl⟩, trivial⟩ rfl ?_
  refine kz_goto (M := kt_M374) kX13_closes_c7.2.2.2.2.1 (t := 2) rfl ?_
  exact kz_weak [(0, .ref (w_adr E.2.1 12 0)), (2, .int (w_a w 12 0 32 (x2).toNatClampNeg))] ⟨rfl, ⟨rfl, trivial⟩⟩ rfl h
def zb_X13_closes_p35 (E : zE) (L : Nat) (Q : kx_Rs → wS → Prop) (x2 : Int32) (x3 : Int32) (w : wS) : Prop := (if x3 < 0 then zb_X13_closes_p94 E L Q x2 w else (kx_inb x3 (w_n w 12 0 31) = true ∧ zw E (L - 23) kt_M373 [.ref (w_adr E.2.1 12 0), .int (w_a w 12 0 31 (x3).toNatClampNeg)] w (wk0 (fun w1 => wle w w1 → (kx_inb x3 (w_n w1 12 0 32) = true ∧ zL_X13_closes_p35 E L Q x2 (w_a w1 12 0 32 (x3).toNatClampNeg) w1)) (fun e w => Q (.inr e) w))))
theorem zt_X13_closes_p35 {E : zE} {L : Nat} {Q : kx_Rs → wS → Prop} {x2 : Int32} {x3 : Int32} {w : wS} (hL : 23 ≤ L) (h : zb_X13_closes_p35 E L Q x2 x3 w) : kzE E L kt_M374 35 [(0, .ref (w_adr E.2.1 12 0)), (2, .int x2), (3, .int x3)] [] w Q := by
  unfold zb_X13_closes_p35 at h
  refine kz_iload_n (M := kt_M374) kX13_closes_c2.2.2.2.2.2.1 rfl ?_
  refine kz_if_lt (M := kt_M374) kX13_closes_c2.2.2.2.2.2.2.1 (t := 59) rfl h (fun h => ?_) (fun h => ?_)
  · skip
    refine kz_goto (M := kt_M374) kX13_closes_c4.2.2.2.1 (t := 94) rfl ?_
    exact kz_weak [(0, .ref (w_adr E.2.1 12 0)), (2, .int x2)] ⟨rfl, ⟨rfl, trivial⟩⟩ rfl (zt_X13_closes_p94 hL  h)
  · skip
    refine kz_aload_n (M := kt_M374) kX13_closes_c2.2.2.2.2.2.2.2.1 rfl ?_
    refine kz_aload_n (M := kt_M374) kX13_closes_c3.1 rfl ?_
    refine kz_gfc (M := kt_M374) (x := 4103) (c := 12) (o := 0) kX13_closes_c3.2.1 wf_X13_202 (.inl rfl) ?_
    refine kz_iload_n (M := kt_M374) kX13_closes_c3.2.2.1 rfl ?_
    refine kz_iald (M := kt_M374) (c := 12) (o := 0) (k := 31) (a := (E.2.1 4103)) kX13_closes_c3.2.2.2.1 ow_12_0_31 oa_12_0_31 ot_0 h (fun h => ?_)
    refine kz_cv0 (M := kt_M374) (c := 12) (o := 0) (As := [.int (w_a w 12 0 31 (x3).toNatClampNeg)]) (rest := []) kX13_closes_c3.2.2.2.2.1 wl_X13_1307 wMv_373 rfl (.inl rfl) rfl (Nat.le_trans (Nat.le_of_ble_eq_true rfl) hL) (Nat.le_of_ble_eq_true rfl) (Nat.le_of_ble_eq_true rfl) h (fun w1 hle h => ?_) (fun _ _ _ h => kzx_no rfl h)
    have h := h hle
    refine kz_aload_n (M := kt_M374) kX13_closes_c3.2.2.2.2.2.1 rfl ?_
    refine kz_gfc (M := kt_M374) (x := 4104) (c := 12) (o := 0) kX13_closes_c3.2.2.2.2.2.2.1 wf_X13_205 (.inl rfl) ?_
    refine kz_iload_n (M := kt_M374) kX13_closes_c3.2.2.2.2.2.2.2.1 rfl ?_
    refine kz_iald (M := kt_M374) (c := 12) (o := 0) (k := 32) (a := (E.2.1 4104)) kX13_closes_c4.1 ow_12_0_32 oa_12_0_32 ot_0 h (fun h => ?_)
    refine kz_sti_n (M := kt_M374) [(0, .ref (w_adr E.2.1 12 0)), (2, .int x2)] kX13_closes_c4.2.1 (Nat.le_of_ble_eq_true rfl) ⟨⟨rfl, rfl, .inl rfl⟩, ⟨⟨rfl, rfl, .inr rfl⟩, trivial⟩⟩ rfl ?_
    refine kz_goto (M := kt_M374) kX13_closes_c4.2.2.1 (t := 35) rfl ?_
    exact kz_weak [(0, .ref (w_adr E.2.1 12 0)), (2, .int x2), (3, .int (w_a w1 12 0 32 (x3).toNatClampNeg))] ⟨rfl, ⟨rfl, ⟨rfl, trivial⟩⟩⟩ rfl h
def zb_X13_closes_p28 (E : zE) (L : Nat) (Q : kx_Rs → wS → Prop) (x2 : Int32) (w : wS) : Prop := (kx_inb x2 (w_n w 12 0 29) = true ∧ zL_X13_closes_p35 E L Q x2 (w_a w 12 0 29 (x2).toNatClampNeg) w)
theorem zt_X13_closes_p28 {E : zE} {L : Nat} {Q : kx_Rs → wS → Prop} {x2 : Int32} {w : wS} (hL : 23 ≤ L) (h : zb_X13_closes_p28 E L Q x2 w) : kzE E L kt_M374 28 [(0, .ref (w_adr E.2.1 12 0)), (2, .int x2)] [] w Q := by
  unfold zb_X13_closes_p28 at h
  refine kz_aload_n (M := kt_M374) kX13_closes_c2.1 rfl ?_
  refine kz_gfc (M := kt_M374) (x := 4101) (c := 12) (o := 0) kX13_closes_c2.2.1 wf_X13_196 (.inl rfl) ?_
  refine kz_iload_n (M := kt_M374) kX13_closes_c2.2.2.1 rfl ?_
  refine kz_iald (M := kt_M374) (c := 12) (o := 0) (k := 29) (a := (E.2.1 4101)) kX13_closes_c2.2.2.2.1 ow_12_0_29 oa_12_0_29 ot_0 h (fun h => ?_)
  refine kz_sti_n (M := kt_M374) [(0, .ref (w_adr E.2.1 12 0)), (2, .int x2)] kX13_closes_c2.2.2.2.2.1 (Nat.le_of_ble_eq_true rfl) ⟨⟨rfl, rfl, .inl rfl⟩, ⟨⟨rfl, rfl, .inr rfl⟩, trivial⟩⟩ rfl ?_
  exact kz_weak [(0, .ref (w_adr E.2.1 12 0)), (2, .int x2), (3, .int (w_a w 12 0 29 (x2).toNatClampNeg))] ⟨rfl, ⟨rfl, ⟨rfl, trivial⟩⟩⟩ rfl h
def zb_X13_closes_p2 (E : zE) (L : Nat) (Q : kx_Rs → wS → Prop) (x2 : Int32) (w : wS) : Prop := (if x2 < 0 then Q (.inl none) w else (kx_inb x2 (w_n w 12 0 26) = true ∧ (if w_a w 12 0 26 (x2).toNatClampNeg = 30 then zb_X13_closes_p28 E L Q x2 w else (kx_inb x2 (w_n w 12 0 26) = true ∧ (if ¬ w_a w 12 0 26 (x2).toNatClampNeg = 31 then (kx_inb x2 (w_n w 12 0 26) = true ∧ (if ¬ w_a w 12 0 26 (x2).toNatClampNeg = 33 then zb_X13_closes_p94 E L Q x2 w else (kx_inb x2 (w_n w 12 0 34) = true ∧ (if ((w_a w 12 0 34 (x2).toNatClampNeg) &&& 1) = 0 then zb_X13_closes_p94 E L Q x2 w else (kx_inb x2 (w_n w 12 0 31) = true ∧ zw E (L - 23) kt_M373 [.ref (w_adr E.2.1 12 0), .int (w_a w 12 0 31 (x2).toNatClampNeg)] w (wk0 (fun w1 => wle w w1 → zb_X13_closes_p94 E L Q x2 w1) (fun e w => Q (.inr e) w))))))) else zb_X13_closes_p28 E L Q x2 w)))))
theorem zt_X13_closes_p2 {E : zE} {L : Nat} {Q : kx_Rs → wS → Prop} {x2 : Int32} {w : wS} (hL : 23 ≤ L) (h : zb_X13_closes_p2 E L Q x2 w) : kzE E L kt_M374 2 [(0, .ref (w_adr E.2.1 12 0)), (2, .int x2)] [] w Q := by
  unfold zb_X13_closes_p2 at h
  refine kz_iload_n (M := kt_M374) kX13_closes_c0.2.2.1 rfl ?_
  refine kz_if_lt (M := kt_M374) kX13_closes_c0.2.2.2.1 (t := 104) rfl h (fun h => ?_) (fun h => ?_)
  · skip
    exact kz_ret (M := kt_M374) kX13_closes_c7.2.2.2.2.2.1 rfl h
  · skip
    refine kz_aload_n (M := kt_M374) kX13_closes_c0.2.2.2.2.1 rfl ?_
    refine kz_gfc (M := kt_M374) (x := 4098) (c := 12) (o := 0) kX13_closes_c0.2.2.2.2.2.1 wf_X13_187 (.inl rfl) ?_
    refine kz_iload_n (M := kt_M374) kX13_closes_c0.2.2.2.2.2.2.1 rfl ?_
    refine kz_iald (M := kt_M374) (c := 12) (o := 0) (k := 26) (a := (E.2.1 4098)) kX13_closes_c0.2.2.2.2.2.2.2.1 ow_12_0_26 oa_12_0_26 ot_0 h (fun h => ?_)
    refine kz_bi (M := kt_M374) 30 kX13_closes_c1.1 rfl ?_
    refine kz_icmp_eq (M := kt_M374) kX13_closes_c1.2.1 (t := 28) rfl h (fun h => ?_) (fun h => ?_)
    · skip
      exact kz_weak [(0, .ref (w_adr E.2.1 12 0)), (2, .int x2)] ⟨rfl, ⟨rfl, trivial⟩⟩ rfl (zt_X13_closes_p28 hL  h)
    · skip
      refine kz_aload_n (M := kt_M374) kX13_closes_c1.2.2.1 rfl ?_
      refine kz_gfc (M := kt_M374) (x := 4098) (c := 12) (o := 0) kX13_closes_c1.2.2.2.1 wf_X13_187 (.inl rfl) ?_
      refine kz_iload_n (M := kt_M374) kX13_closes_c1.2.2.2.2.1 rfl ?_
      refine kz_iald (M := kt_M374) (c := 12) (o := 0) (k := 26) (a := (E.2.1 4098)) kX13_closes_c1.2.2.2.2.2.1 ow_12_0_26 oa_12_0_26 ot_0 h (fun h => ?_)
      refine kz_bi (M := kt_M374) 31 kX13_closes_c1.2.2.2.2.2.2.1 rfl ?_
      refine kz_icmp_ne (M := kt_M374) kX13_closes_c1.2.2.2.2.2.2.2.1 (t := 62) rfl h (fun h => ?_) (fun h => ?_)
      · skip
        refine kz_aload_n (M := kt_M374) kX13_closes_c4.2.2.2.2.1 rfl ?_
        refine kz_gfc (M := kt_M374) (x := 4098) (c := 12) (o := 0) kX13_closes_c4.2.2.2.2.2.1 wf_X13_187 (.inl rfl) ?_
        refine kz_iload_n (M := kt_M374) kX13_closes_c4.2.2.2.2.2.2.1 rfl ?_
        refine kz_iald (M := kt_M374) (c := 12) (o := 0) (k := 26) (a := (E.2.1 4098)) kX13_closes_c4.2.2.2.2.2.2.2.1 ow_12_0_26 oa_12_0_26 ot_0 h (fun h => ?_)
        refine kz_bi (M := kt_M374) 33 kX13_closes_c5.1 rfl ?_
        refine kz_icmp_ne (M := kt_M374) kX13_closes_c5.2.1 (t := 94) rfl h (fun h => ?_) (fun h => ?_)
        · skip
          exact kz_weak [(0, .ref (w_adr E.2.1 12 0)), (2, .int x2)] ⟨rfl, ⟨rfl, trivial⟩⟩ rfl (zt_X13_closes_p94 hL  h)
        · skip
          refine kz_aload_n (M := kt_M374) kX13_closes_c5.2.2.1 rfl ?_
          refine kz_gfc (M := kt_M374) (x := 4106) (c := 12) (o := 0) kX13_closes_c5.2.2.2.1 wf_X13_211 (.inl rfl) ?_
          refine kz_iload_n (M := kt_M374) kX13_closes_c5.2.2.2.2.1 rfl ?_
          refine kz_iald (M := kt_M374) (c := 12) (o := 0) (k := 34) (a := (E.2.1 4106)) kX13_closes_c5.2.2.2.2.2.1 ow_12_0_34 oa_12_0_34 ot_0 h (fun h => ?_)
          refine kz_ic (M := kt_M374) 1 kX13_closes_c5.2.2.2.2.2.2.1 rfl ?_
          refine kz_iand (M := kt_M374) kX13_closes_c5.2.2.2.2.2.2.2.1 ?_
          refine kz_if_eq (M := kt_M374) kX13_closes_c6.1 (t := 94) rfl h (fun h => ?_) (fun h => ?_)
          · skip
            exact kz_weak [(0, .ref (w_adr E.2.1 12 0)), (2, .int x2)] ⟨rfl, ⟨rfl, trivial⟩⟩ rfl (zt_X13_closes_p94 hL  h)
          · skip
            refine kz_aload_n (M := kt_M374) kX13_closes_c6.2.1 rfl ?_
            refine kz_aload_n (M := kt_M374) kX13_closes_c6.2.2.1 rfl ?_
            refine kz_gfc (M := kt_M374) (x := 4103) (c := 12) (o := 0) kX13_closes_c6.2.2.2.1 wf_X13_202 (.inl rfl) ?_
            refine kz_iload_n (M := kt_M374) kX13_closes_c6.2.2.2.2.1 rfl ?_
            refine kz_iald (M := kt_M374) (c := 12) (o := 0) (k := 31) (a := (E.2.1 4103)) kX13_closes_c6.2.2.2.2.2.1 ow_12_0_31 oa_12_0_31 ot_0 h (fun h => ?_)
            refine kz_cv0 (M := kt_M374) (c := 12) (o := 0) (As := [.int (w_a w 12 0 31 (x2).toNatClampNeg)]) (rest := []) kX13_closes_c6.2.2.2.2.2.2.1 wl_X13_1307 wMv_373 rfl (.inl rfl) rfl (Nat.le_trans (Nat.le_of_ble_eq_true rfl) hL) (Nat.le_of_ble_eq_true rfl) (Nat.le_of_ble_eq_true rfl) h (fun w1 hle h => ?_) (fun _ _ _ h => kzx_no rfl h)
            have h := h hle
            exact kz_weak [(0, .ref (w_adr E.2.1 12 0)), (2, .int x2)] ⟨rfl, ⟨rfl, trivial⟩⟩ rfl (zt_X13_closes_p94 hL  h)
      · skip
        exact kz_weak [(0, .ref (w_adr E.2.1 12 0)), (2, .int x2)] ⟨rfl, ⟨rfl, trivial⟩⟩ rfl (zt_X13_closes_p28 hL  h)
def zb_X13_closes_p0 (E : zE) (L : Nat) (Q : kx_Rs → wS → Prop) (x1 : Int32) (w : wS) : Prop := zL_X13_closes_p2 E L Q x1 w
theorem zt_X13_closes_p0 {E : zE} {L : Nat} {Q : kx_Rs → wS → Prop} {x1 : Int32} {w : wS} (hL : 23 ≤ L) (h : zb_X13_closes_p0 E L Q x1 w) : kzE E L kt_M374 0 [(0, .ref (w_adr E.2.1 12 0)), (1, .int x1)] [] w Q := by
  unfold zb_X13_closes_p0 at h
  refine kz_iload_n (M := kt_M374) kX13_closes_c0.1 rfl ?_
  refine kz_sti_n (M := kt_M374) [(0, .ref (w_adr E.2.1 12 0))] kX13_closes_c0.2.1 (Nat.le_of_ble_eq_true rfl) ⟨⟨rfl, rfl, .inl rfl⟩, trivial⟩ rfl ?_
  exact kz_weak [(0, .ref (w_adr E.2.1 12 0)), (2, .int x1)] ⟨rfl, ⟨rfl, trivial⟩⟩ rfl h
def zb_X13_close_p49 (E : zE) (L : Nat) (Q : kx_Rs → wS → Prop) (w : wS) : Prop := Q (.inl none) w
theorem zt_X13_close_p49 {E : zE} {L : Nat} {Q : kx_Rs → wS → Prop} {w : wS} (hL : 26 ≤ L) (h : zb_X13_close_p49 E L Q  w) : kzE E L kt_M373 49 [(0, .ref (w_adr E.2.1 12 0))] [] w Q := by
  unfold zb_X13_close_p49 at h
  exact kz_ret (M := kt_M373) kX13_close_c3.2.2.2.2.2.1 rfl h
def zb_X13_close_p39 (E : zE) (L : Nat) (Q : kx_Rs → wS → Prop) (x2 : Int32) (x3 : Int32) (w : wS) : Prop := zw E (L - 21) kt_M410 [.ref (w_adr E.2.1 12 0), .int x2] w (wk1 (fun v2 w1 => wle w w1 → zw E (L - 26) kt_M551 [.ref (w_adr E.2.1 12 0), .int v2, .int x3] w1 (wk0 (fun w3 => wle w1 w3 → zb_X13_close_p49 E L Q w3) (fun e w => Q (.inr e) w))) (fun e w => Q (.inr e) w))
theorem zt_X13_close_p39 {E : zE} {L : Nat} {Q : kx_Rs → wS → Prop} {x2 : Int32} {x3 : Int32} {w : wS} (hL : 26 ≤ L) (h : zb_X13_close_p39 E L Q x2 x3 w) : kzE E L kt_M373 39 [(0, .ref (w_adr E.2.1 12 0)), (2, .int x2), (3, .int x3)] [] w Q := by
  unfold zb_X13_close_p39 at h
  refine kz_aload_n (M := kt_M373) kX13_close_c2.2.2.2.2.2.2.2.1 rfl ?_
  refine kz_aload_n (M := kt_M373) kX13_close_c3.1 rfl ?_
  refine kz_iload_n (M := kt_M373) kX13_close_c3.2.1 rfl ?_
  refine kz_cv1 (M := kt_M373) (c := 12) (o := 0) (As := [.int x2]) (rest := [.ref (w_adr E.2.1 12 0)]) kX13_close_c3.2.2.1 wl_X13_1177 wMv_410 rfl (.inl rfl) rfl (Nat.le_trans (Nat.le_of_ble_eq_true rfl) hL) (Nat.le_of_ble_eq_true rfl) (Nat.le_of_ble_eq_true rfl) h (fun v2 w1 hle h => ?_) (fun _ _ _ h => kzx_no rfl h)
  have h := h hle
  refine kz_iload_n (M := kt_M373) kX13_close_c3.2.2.2.1 rfl ?_
  refine kz_cv0 (M := kt_M373) (c := 12) (o := 0) (As := [.int v2, .int x3]) (rest := []) kX13_close_c3.2.2.2.2.1 wl_X13_1204 wMv_551 rfl (.inl rfl) rfl (Nat.le_trans (Nat.le_of_ble_eq_true rfl) hL) (Nat.le_of_ble_eq_true rfl) (Nat.le_of_ble_eq_true rfl) h (fun w3 hle h => ?_) (fun _ _ _ h => kzx_no rfl h)
  have h := h hle
  exact kz_weak [(0, .ref (w_adr E.2.1 12 0))] ⟨rfl, trivial⟩ rfl (zt_X13_close_p49 hL  h)
def zb_X13_close_p0 (E : zE) (L : Nat) (Q : kx_Rs → wS → Prop) (x1 : Int32) (w : wS) : Prop := zw E (L - 21) kt_M540 [.ref (w_adr E.2.1 12 0), .int x1] w (wk1 (fun v2 w1 => wle w w1 → zw E (L - 22) kt_M464 [.ref (w_adr E.2.1 12 0), .int x1, .int v2] w1 (wk1 (fun v4 w3 => wle w1 w3 → (kx_inb x1 (w_n w3 12 0 51) = true ∧ (if ¬ w_a w3 12 0 51 (x1).toNatClampNeg = 0 then zb_X13_close_p39 E L Q v2 v4 (ws_i w3 12 0 131 ((w_i w3 12 0 131) - v4)) else (if ¬ w_i w3 12 0 173 = 0 then zb_X13_close_p49 E L Q (ws_i w3 12 0 131 ((w_i w3 12 0 131) - v4)) else zb_X13_close_p39 E L Q v2 v4 (ws_i w3 12 0 131 ((w_i w3 12 0 131) - v4)))))) (fun e w => Q (.inr e) w))) (fun e w => Q (.inr e) w))
theorem zt_X13_close_p0 {E : zE} {L : Nat} {Q : kx_Rs → wS → Prop} {x1 : Int32} {w : wS} (hL : 26 ≤ L) (h : zb_X13_close_p0 E L Q x1 w) : kzE E L kt_M373 0 [(0, .ref (w_adr E.2.1 12 0)), (1, .int x1)] [] w Q := by
  unfold zb_X13_close_p0 at h
  refine kz_aload_n (M := kt_M373) kX13_close_c0.1 rfl ?_
  refine kz_iload_n (M := kt_M373) kX13_close_c0.2.1 rfl ?_
  refine kz_cv1 (M := kt_M373) (c := 12) (o := 0) (As := [.int x1]) (rest := []) kX13_close_c0.2.2.1 wl_X13_1210 wMv_540 rfl (.inl rfl) rfl (Nat.le_trans (Nat.le_of_ble_eq_true rfl) hL) (Nat.le_of_ble_eq_true rfl) (Nat.le_of_ble_eq_true rfl) h (fun v2 w1 hle h => ?_) (fun _ _ _ h => kzx_no rfl h)
  have h := h hle
  refine kz_sti_n (M := kt_M373) [(0, .ref (w_adr E.2.1 12 0)), (1, .int x1)] kX13_close_c0.2.2.2.1 (Nat.le_of_ble_eq_true rfl) ⟨⟨rfl, rfl, .inl rfl⟩, ⟨⟨rfl, rfl, .inr rfl⟩, trivial⟩⟩ rfl ?_
  refine kz_aload_n (M := kt_M373) kX13_close_c0.2.2.2.2.1 rfl ?_
  refine kz_iload_n (M := kt_M373) kX13_close_c0.2.2.2.2.2.1 rfl ?_
  refine kz_iload_n (M := kt_M373) kX13_close_c0.2.2.2.2.2.2.1 rfl ?_
  refine kz_cv1 (M := kt_M373) (c := 12) (o := 0) (As := [.int x1, .int v2]) (rest := []) kX13_close_c0.2.2.2.2.2.2.2.1 wl_X13_1254 wMv_464 rfl (.inl rfl) rfl (Nat.le_trans (Nat.le_of_ble_eq_true rfl) hL) (Nat.le_of_ble_eq_true rfl) (Nat.le_of_ble_eq_true rfl) h (fun v4 w3 hle h => ?_) (fun _ _ _ h => kzx_no rfl h)
  have h := h hle
  refine kz_sti_n (M := kt_M373) [(0, .ref (w_adr E.2.1 12 0)), (1, .int x1), (2, .int v2)] kX13_close_c1.1 (Nat.le_of_ble_eq_true rfl) ⟨⟨rfl, rfl, .inl rfl⟩, ⟨⟨rfl, rfl, .inl rfl⟩, ⟨⟨rfl, rfl, .inr rfl⟩, trivial⟩⟩⟩ rfl ?_
  refine kz_aload_n (M := kt_M373) kX13_close_c1.2.1 rfl ?_
  refine kz_dup (M := kt_M373) kX13_close_c1.2.2.1 rfl ?_
  refine kz_gfi (M := kt_M373) (c := 12) (o := 0) kX13_close_c1.2.2.2.1 wf_X13_1243 (.inl rfl) ?_
  refine kz_iload_n (M := kt_M373) kX13_close_c1.2.2.2.2.1 rfl ?_
  refine kz_isub (M := kt_M373) kX13_close_c1.2.2.2.2.2.1 ?_
  refine kz_pfi (M := kt_M373) (c := 12) (o := 0) kX13_close_c1.2.2.2.2.2.2.1 wq_X13_1243 (.inl rfl) ?_
  refine kz_aload_n (M := kt_M373) kX13_close_c1.2.2.2.2.2.2.2.1 rfl ?_
  refine kz_gfc (M := kt_M373) (x := 4123) (c := 12) (o := 0) kX13_close_c2.1 wf_X13_238 (.inl rfl) ?_
  refine kz_iload_n (M := kt_M373) kX13_close_c2.2.1 rfl ?_
  refine kz_ialdR (M := kt_M373) (n := w_n w3 12 0 51) (c := 12) (o := 0) (k := 51) (a := (E.2.1 4123)) (w_a w3 12 0 51 (x1).toNatClampNeg) kX13_close_c2.2.2.1 ow_12_0_51 oa_12_0_51 ot_0 rd_n_i rd_a_i h (fun h => ?_)
  refine kz_if_ne (M := kt_M373) kX13_close_c2.2.2.2.1 (t := 39) rfl h (fun h => ?_) (fun h => ?_)
  · skip
    exact kz_weak [(0, .ref (w_adr E.2.1 12 0)), (2, .int v2), (3, .int v4)] ⟨rfl, ⟨rfl, ⟨rfl, trivial⟩⟩⟩ rfl (zt_X13_close_p39 hL  h)
  · skip
    refine kz_aload_n (M := kt_M373) kX13_close_c2.2.2.2.2.1 rfl ?_
    refine kz_gfiR (M := kt_M373) (c := 12) (o := 0) (w_i w3 12 0 173) kX13_close_c2.2.2.2.2.2.1 wf_X13_1310 (.inl rfl) (rd_i_i rfl) ?_
    refine kz_if_ne (M := kt_M373) kX13_close_c2.2.2.2.2.2.2.1 (t := 49) rfl h (fun h => ?_) (fun h => ?_)
    · skip
      exact kz_weak [(0, .ref (w_adr E.2.1 12 0))] ⟨rfl, trivial⟩ rfl (zt_X13_close_p49 hL  h)
    · skip
      exact kz_weak [(0, .ref (w_adr E.2.1 12 0)), (2, .int v2), (3, .int v4)] ⟨rfl, ⟨rfl, ⟨rfl, trivial⟩⟩⟩ rfl (zt_X13_close_p39 hL  h)
def zL_X13_unbind_p7 (E : zE) (L : Nat) (Q : kx_Rs → wS → Prop) (x2 : Int32) (x3 : Int32) (w : wS) : Prop := kzE E L kt_M587 7 [(0, .ref (w_adr E.2.1 12 0)), (2, .int x2), (3, .int x3)] [] w Q
def zb_X13_unbind_p84 (E : zE) (L : Nat) (Q : kx_Rs → wS → Prop) (x2 : Int32) (x3 : Int32) (w : wS) : Prop := (kx_inb x3 (w_n w 12 0 32) = true ∧ zL_X13_unbind_p7 E L Q x2 (w_a w 12 0 32 (x3).toNatClampNeg) w)
theorem zt_X13_unbind_p84 {E : zE} {L : Nat} {Q : kx_Rs → wS → Prop} {x2 : Int32} {x3 : Int32} {w : wS} (hL : 26 ≤ L) (h : zb_X13_unbind_p84 E L Q x2 x3 w) : kzE E L kt_M587 84 [(0, .ref (w_adr E.2.1 12 0)), (2, .int x2), (3, .int x3)] [] w Q := by
  unfold zb_X13_unbind_p84 at h
  refine kz_aload_n (M := kt_M587) kX13_unbind_c6.2.2.1 rfl ?_
  refine kz_gfc (M := kt_M587) (x := 4104) (c := 12) (o := 0) kX13_unbind_c6.2.2.2.1 wf_X13_205 (.inl rfl) ?_
  refine kz_iload_n (M := kt_M587) kX13_unbind_c6.2.2.2.2.1 rfl ?_
  refine kz_iald (M := kt_M587) (c := 12) (o := 0) (k := 32) (a := (E.2.1 4104)) kX13_unbind_c6.2.2.2.2.2.1 ow_12_0_32 oa_12_0_32 ot_0 h (fun h => ?_)
  refine kz_sti_n (M := kt_M587) [(0, .ref (w_adr E.2.1 12 0)), (2, .int x2)] kX13_unbind_c6.2.2.2.2.2.2.1 (Nat.le_of_ble_eq_true rfl) ⟨⟨rfl, rfl, .inl rfl⟩, ⟨⟨rfl, rfl, .inr rfl⟩, trivial⟩⟩ rfl ?_
  refine kz_goto (M := kt_M587) kX13_unbind_c6.2.2.2.2.2.2.2.1 (t := 7) rfl ?_
  exact kz_weak [(0, .ref (w_adr E.2.1 12 0)), (2, .int x2), (3, .int (w_a w 12 0 32 (x3).toNatClampNeg))] ⟨rfl, ⟨rfl, ⟨rfl, trivial⟩⟩⟩ rfl h
def zb_X13_unbind_p7 (E : zE) (L : Nat) (Q : kx_Rs → wS → Prop) (x2 : Int32) (x3 : Int32) (w : wS) : Prop := (if x3 < 0 then Q (.inl none) w else (kx_inb x3 (w_n w 12 0 34) = true ∧ (if ((w_a w 12 0 34 (x3).toNatClampNeg) &&& 4) = 0 then zb_X13_unbind_p84 E L Q x2 x3 w else (kx_inb x3 (w_n w 12 0 34) = true ∧ (if ¬ ((w_a w 12 0 34 (x3).toNatClampNeg) &&& 1) = 0 then (kx_inb x3 (w_n w 12 0 31) = true ∧ zw E (L - 22) kt_M367 [.ref (w_adr E.2.1 12 0), .int x2, .int (w_a w 12 0 31 (x3).toNatClampNeg)] w (wk1 (fun v2 w1 => wle w w1 → zw E (L - 21) kt_M410 [.ref (w_adr E.2.1 12 0), .int (v2 + 1)] w1 (wk1 (fun v4 w3 => wle w1 w3 → zw E (L - 21) kt_M410 [.ref (w_adr E.2.1 12 0), .int v2] (ws_i w3 12 0 131 ((w_i w1 12 0 131) - v4)) (wk1 (fun v6 w5 => wle (ws_i w3 12 0 131 ((w_i w1 12 0 131) - v4)) w5 → zw E (L - 21) kt_M410 [.ref (w_adr E.2.1 12 0), .int (v2 + 1)] w5 (wk1 (fun v8 w7 => wle w5 w7 → zw E (L - 26) kt_M551 [.ref (w_adr E.2.1 12 0), .int v6, .int v8] w7 (wk0 (fun w9 => wle w7 w9 → zb_X13_unbind_p84 E L Q x2 x3 w9) (fun e w => Q (.inr e) w))) (fun e w => Q (.inr e) w))) (fun e w => Q (.inr e) w))) (fun e w => Q (.inr e) w))) (fun e w => Q (.inr e) w))) else zb_X13_unbind_p84 E L Q x2 x3 w)))))
theorem zt_X13_unbind_p7 {E : zE} {L : Nat} {Q : kx_Rs → wS → Prop} {x2 : Int32} {x3 : Int32} {w : wS} (hL : 26 ≤ L) (h : zb_X13_unbind_p7 E L Q x2 x3 w) : kzE E L kt_M587 7 [(0, .ref (w_adr E.2.1 12 0)), (2, .int x2), (3, .int x3)] [] w Q := by
  unfold zb_X13_unbind_p7 at h
  refine kz_iload_n (M := kt_M587) kX13_unbind_c0.2.2.2.2.2.1 rfl ?_
  refine kz_if_lt (M := kt_M587) kX13_unbind_c0.2.2.2.2.2.2.1 (t := 94) rfl h (fun h => ?_) (fun h => ?_)
  · skip
    exact kz_ret (M := kt_M587) kX13_unbind_c7.1 rfl h
  · skip
    refine kz_aload_n (M := kt_M587) kX13_unbind_c0.2.2.2.2.2.2.2.1 rfl ?_
    refine kz_gfc (M := kt_M587) (x := 4106) (c := 12) (o := 0) kX13_unbind_c1.1 wf_X13_211 (.inl rfl) ?_
    refine kz_iload_n (M := kt_M587) kX13_unbind_c1.2.1 rfl ?_
    refine kz_iald (M := kt_M587) (c := 12) (o := 0) (k := 34) (a := (E.2.1 4106)) kX13_unbind_c1.2.2.1 ow_12_0_34 oa_12_0_34 ot_0 h (fun h => ?_)
    refine kz_ic (M := kt_M587) 4 kX13_unbind_c1.2.2.2.1 rfl ?_
    refine kz_iand (M := kt_M587) kX13_unbind_c1.2.2.2.2.1 ?_
    refine kz_if_eq (M := kt_M587) kX13_unbind_c1.2.2.2.2.2.1 (t := 84) rfl h (fun h => ?_) (fun h => ?_)
    · skip
      exact kz_weak [(0, .ref (w_adr E.2.1 12 0)), (2, .int x2), (3, .int x3)] ⟨rfl, ⟨rfl, ⟨rfl, trivial⟩⟩⟩ rfl (zt_X13_unbind_p84 hL  h)
    · skip
      refine kz_aload_n (M := kt_M587) kX13_unbind_c1.2.2.2.2.2.2.1 rfl ?_
      refine kz_gfc (M := kt_M587) (x := 4106) (c := 12) (o := 0) kX13_unbind_c1.2.2.2.2.2.2.2.1 wf_X13_211 (.inl rfl) ?_
      refine kz_iload_n (M := kt_M587) kX13_unbind_c2.1 rfl ?_
      refine kz_iald (M := kt_M587) (c := 12) (o := 0) (k := 34) (a := (E.2.1 4106)) kX13_unbind_c2.2.1 ow_12_0_34 oa_12_0_34 ot_0 h (fun h => ?_)
      refine kz_ic (M := kt_M587) 1 kX13_unbind_c2.2.2.1 rfl ?_
      refine kz_iand (M := kt_M587) kX13_unbind_c2.2.2.2.1 ?_
      refine kz_if_ne (M := kt_M587) kX13_unbind_c2.2.2.2.2.1 (t := 36) rfl h (fun h => ?_) (fun h => ?_)
      · skip
        refine kz_aload_n (M := kt_M587) kX13_unbind_c2.2.2.2.2.2.2.1 rfl ?_
        refine kz_iload_n (M := kt_M587) kX13_unbind_c2.2.2.2.2.2.2.2.1 rfl ?_
        refine kz_aload_n (M := kt_M587) kX13_unbind_c3.1 rfl ?_
        refine kz_gfc (M := kt_M587) (x := 4103) (c := 12) (o := 0) kX13_unbind_c3.2.1 wf_X13_202 (.inl rfl) ?_
        refine kz_iload_n (M := kt_M587) kX13_unbind_c3.2.2.1 rfl ?_
        refine kz_iald (M := kt_M587) (c := 12) (o := 0) (k := 31) (a := (E.2.1 4103)) kX13_unbind_c3.2.2.2.1 ow_12_0_31 oa_12_0_31 ot_0 h (fun h => ?_)
        refine kz_cv1 (M := kt_M587) (c := 12) (o := 0) (As := [.int x2, .int (w_a w 12 0 31 (x3).toNatClampNeg)]) (rest := []) kX13_unbind_c3.2.2.2.2.1 wl_X13_1248 wMv_367 rfl (.inl rfl) rfl (Nat.le_trans (Nat.le_of_ble_eq_true rfl) hL) (Nat.le_of_ble_eq_true rfl) (Nat.le_of_ble_eq_true rfl) h (fun v2 w1 hle h => ?_) (fun _ _ _ h => kzx_no rfl h)
        have h := h hle
        refine kz_sti (M := kt_M587) [(0, .ref (w_adr E.2.1 12 0)), (2, .int x2), (3, .int x3)] kX13_unbind_c3.2.2.2.2.2.1 (Nat.le_of_ble_eq_true rfl) ⟨⟨rfl, rfl, .inl rfl⟩, ⟨⟨rfl, rfl, .inl rfl⟩, ⟨⟨rfl, rfl, .inr rfl⟩, trivial⟩⟩⟩ rfl ?_
        refine kz_aload_n (M := kt_M587) kX13_unbind_c3.2.2.2.2.2.2.1 rfl ?_
        refine kz_dup (M := kt_M587) kX13_unbind_c3.2.2.2.2.2.2.2.1 rfl ?_
        refine kz_gfi (M := kt_M587) (c := 12) (o := 0) kX13_unbind_c4.1 wf_X13_1243 (.inl rfl) ?_
        refine kz_aload_n (M := kt_M587) kX13_unbind_c4.2.1 rfl ?_
        refine kz_iload (M := kt_M587) kX13_unbind_c4.2.2.1 rfl ?_
        refine kz_ic (M := kt_M587) 1 kX13_unbind_c4.2.2.2.1 rfl ?_
        refine kz_iadd (M := kt_M587) kX13_unbind_c4.2.2.2.2.1 ?_
        refine kz_cv1 (M := kt_M587) (c := 12) (o := 0) (As := [.int (v2 + 1)]) (rest := [.int (w_i w1 12 0 131), .ref (w_adr E.2.1 12 0)]) kX13_unbind_c4.2.2.2.2.2.1 wl_X13_1177 wMv_410 rfl (.inl rfl) rfl (Nat.le_trans (Nat.le_of_ble_eq_true rfl) hL) (Nat.le_of_ble_eq_true rfl) (Nat.le_of_ble_eq_true rfl) h (fun v4 w3 hle h => ?_) (fun _ _ _ h => kzx_no rfl h)
        have h := h hle
        refine kz_isub (M := kt_M587) kX13_unbind_c4.2.2.2.2.2.2.1 ?_
        refine kz_pfi (M := kt_M587) (c := 12) (o := 0) kX13_unbind_c4.2.2.2.2.2.2.2.1 wq_X13_1243 (.inl rfl) ?_
        refine kz_aload_n (M := kt_M587) kX13_unbind_c5.1 rfl ?_
        refine kz_aload_n (M := kt_M587) kX13_unbind_c5.2.1 rfl ?_
        refine kz_iload (M := kt_M587) kX13_unbind_c5.2.2.1 rfl ?_
        refine kz_cv1 (M := kt_M587) (c := 12) (o := 0) (As := [.int v2]) (rest := [.ref (w_adr E.2.1 12 0)]) kX13_unbind_c5.2.2.2.1 wl_X13_1177 wMv_410 rfl (.inl rfl) rfl (Nat.le_trans (Nat.le_of_ble_eq_true rfl) hL) (Nat.le_of_ble_eq_true rfl) (Nat.le_of_ble_eq_true rfl) h (fun v6 w5 hle h => ?_) (fun _ _ _ h => kzx_no rfl h)
        have h := h hle
        refine kz_aload_n (M := kt_M587) kX13_unbind_c5.2.2.2.2.1 rfl ?_
        refine kz_iload (M := kt_M587) kX13_unbind_c5.2.2.2.2.2.1 rfl ?_
        refine kz_ic (M := kt_M587) 1 kX13_unbind_c5.2.2.2.2.2.2.1 rfl ?_
        refine kz_iadd (M := kt_M587) kX13_unbind_c5.2.2.2.2.2.2.2.1 ?_
        refine kz_cv1 (M := kt_M587) (c := 12) (o := 0) (As := [.int (v2 + 1)]) (rest := [.int v6, .ref (w_adr E.2.1 12 0)]) kX13_unbind_c6.1 wl_X13_1177 wMv_410 rfl (.inl rfl) rfl (Nat.le_trans (Nat.le_of_ble_eq_true rfl) hL) (Nat.le_of_ble_eq_true rfl) (Nat.le_of_ble_eq_true rfl) h (fun v8 w7 hle h => ?_) (fun _ _ _ h => kzx_no rfl h)
        have h := h hle
        refine kz_cv0 (M := kt_M587) (c := 12) (o := 0) (As := [.int v6, .int v8]) (rest := []) kX13_unbind_c6.2.1 wl_X13_1204 wMv_551 rfl (.inl rfl) rfl (Nat.le_trans (Nat.le_of_ble_eq_true rfl) hL) (Nat.le_of_ble_eq_true rfl) (Nat.le_of_ble_eq_true rfl) h (fun w9 hle h => ?_) (fun _ _ _ h => kzx_no rfl h)
        have h := h hle
        exact kz_weak [(0, .ref (w_adr E.2.1 12 0)), (2, .int x2), (3, .int x3)] ⟨rfl, ⟨rfl, ⟨rfl, trivial⟩⟩⟩ rfl (zt_X13_unbind_p84 hL  h)
      · skip
        refine kz_goto (M := kt_M587) kX13_unbind_c2.2.2.2.2.2.1 (t := 84) rfl ?_
        exact kz_weak [(0, .ref (w_adr E.2.1 12 0)), (2, .int x2), (3, .int x3)] ⟨rfl, ⟨rfl, ⟨rfl, trivial⟩⟩⟩ rfl (zt_X13_unbind_p84 hL  h)
def zb_X13_unbind_p0 (E : zE) (L : Nat) (Q : kx_Rs → wS → Prop) (x1 : Int32) (x2 : Int32) (w : wS) : Prop := (kx_inb x1 (w_n w 12 0 28) = true ∧ zL_X13_unbind_p7 E L Q x2 (w_a w 12 0 28 (x1).toNatClampNeg) w)
theorem zt_X13_unbind_p0 {E : zE} {L : Nat} {Q : kx_Rs → wS → Prop} {x1 : Int32} {x2 : Int32} {w : wS} (hL : 26 ≤ L) (h : zb_X13_unbind_p0 E L Q x1 x2 w) : kzE E L kt_M587 0 [(0, .ref (w_adr E.2.1 12 0)), (1, .int x1), (2, .int x2)] [] w Q := by
  unfold zb_X13_unbind_p0 at h
  refine kz_aload_n (M := kt_M587) kX13_unbind_c0.1 rfl ?_
  refine kz_gfc (M := kt_M587) (x := 4100) (c := 12) (o := 0) kX13_unbind_c0.2.1 wf_X13_193 (.inl rfl) ?_
  refine kz_iload_n (M := kt_M587) kX13_unbind_c0.2.2.1 rfl ?_
  refine kz_iald (M := kt_M587) (c := 12) (o := 0) (k := 28) (a := (E.2.1 4100)) kX13_unbind_c0.2.2.2.1 ow_12_0_28 oa_12_0_28 ot_0 h (fun h => ?_)
  refine kz_sti_n (M := kt_M587) [(0, .ref (w_adr E.2.1 12 0)), (2, .int x2)] kX13_unbind_c0.2.2.2.2.1 (Nat.le_of_ble_eq_true rfl) ⟨⟨rfl, rfl, .inl rfl⟩, ⟨⟨rfl, rfl, .inr rfl⟩, trivial⟩⟩ rfl ?_
  exact kz_weak [(0, .ref (w_adr E.2.1 12 0)), (2, .int x2), (3, .int (w_a w 12 0 28 (x1).toNatClampNeg))] ⟨rfl, ⟨rfl, ⟨rfl, trivial⟩⟩⟩ rfl h
def zb_X13_freeFrame_p0 (E : zE) (L : Nat) (Q : kx_Rs → wS → Prop) (x1 : Int32) (w : wS) : Prop := zw E (L - 21) kt_M410 [.ref (w_adr E.2.1 12 0), .int x1] w (wk1 (fun v2 w1 => wle w w1 → (kx_inb v2 (w_n w1 12 0 61) = true ∧ zw E (L - 26) kt_M456 [.ref (w_adr E.2.1 12 0), .int x1, .int (2 + (w_a w1 12 0 61 (v2).toNatClampNeg))] w1 (wk0 (fun w3 => wle w1 w3 → Q (.inl none) w3) (fun e w => Q (.inr e) w)))) (fun e w => Q (.inr e) w))
theorem zt_X13_freeFrame_p0 {E : zE} {L : Nat} {Q : kx_Rs → wS → Prop} {x1 : Int32} {w : wS} (hL : 26 ≤ L) (h : zb_X13_freeFrame_p0 E L Q x1 w) : kzE E L kt_M416 0 [(0, .ref (w_adr E.2.1 12 0)), (1, .int x1)] [] w Q := by
  unfold zb_X13_freeFrame_p0 at h
  refine kz_aload_n (M := kt_M416) kX13_freeFrame_c0.1 rfl ?_
  refine kz_iload_n (M := kt_M416) kX13_freeFrame_c0.2.1 rfl ?_
  refine kz_ic (M := kt_M416) 2 kX13_freeFrame_c0.2.2.1 rfl ?_
  refine kz_aload_n (M := kt_M416) kX13_freeFrame_c0.2.2.2.1 rfl ?_
  refine kz_gfc (M := kt_M416) (x := 4133) (c := 12) (o := 0) kX13_freeFrame_c0.2.2.2.2.1 wf_X13_260 (.inl rfl) ?_
  refine kz_aload_n (M := kt_M416) kX13_freeFrame_c0.2.2.2.2.2.1 rfl ?_
  refine kz_iload_n (M := kt_M416) kX13_freeFrame_c0.2.2.2.2.2.2.1 rfl ?_
  refine kz_cv1 (M := kt_M416) (c := 12) (o := 0) (As := [.int x1]) (rest := [.ref (E.2.1 4133), .int 2, .int x1, .ref (w_adr E.2.1 12 0)]) kX13_freeFrame_c0.2.2.2.2.2.2.2.1 wl_X13_1177 wMv_410 rfl (.inl rfl) rfl (Nat.le_trans (Nat.le_of_ble_eq_true rfl) hL) (Nat.le_of_ble_eq_true rfl) (Nat.le_of_ble_eq_true rfl) h (fun v2 w1 hle h => ?_) (fun _ _ _ h => kzx_no rfl h)
  have h := h hle
  refine kz_iald (M := kt_M416) (c := 12) (o := 0) (k := 61) (a := (E.2.1 4133)) kX13_freeFrame_c1.1 ow_12_0_61 oa_12_0_61 ot_0 h (fun h => ?_)
  refine kz_iadd (M := kt_M416) kX13_freeFrame_c1.2.1 ?_
  refine kz_cv0 (M := kt_M416) (c := 12) (o := 0) (As := [.int x1, .int (2 + (w_a w1 12 0 61 (v2).toNatClampNeg))]) (rest := []) kX13_freeFrame_c1.2.2.1 wl_X13_1180 wMv_456 rfl (.inl rfl) rfl (Nat.le_trans (Nat.le_of_ble_eq_true rfl) hL) (Nat.le_of_ble_eq_true rfl) (Nat.le_of_ble_eq_true rfl) h (fun w3 hle h => ?_) (fun _ _ _ h => kzx_no rfl h)
  have h := h hle
  exact kz_ret (M := kt_M416) kX13_freeFrame_c1.2.2.2.1 rfl h
def zb_X13_used_p23 (E : zE) (L : Nat) (Q : kx_Rs → wS → Prop) (x1 : Int32) (w : wS) : Prop := (kx_inb (w_i w 12 0 161) (w_n w 12 0 146) = true ∧ (kx_inb x1 (w_n w 12 0 113) = true ∧ (kx_inb x1 (w_n w 12 0 111) = true ∧ Q (.inl (some (.int (w_a w 12 0 111 (x1).toNatClampNeg)))) (ws_a w 12 0 113 (x1).toNatClampNeg (w_a w 12 0 146 (w_i w 12 0 161).toNatClampNeg)))))
theorem zt_X13_used_p23 {E : zE} {L : Nat} {Q : kx_Rs → wS → Prop} {x1 : Int32} {w : wS} (hL : 22 ≤ L) (h : zb_X13_used_p23 E L Q x1 w) : kzE E L kt_M594 23 [(0, .ref (w_adr E.2.1 12 0)), (1, .int x1)] [] w Q := by
  unfold zb_X13_used_p23 at h
  refine kz_aload_n (M := kt_M594) kX13_used_c1.2.2.2.2.2.1 rfl ?_
  refine kz_gfa (M := kt_M594) (c := 12) (o := 0) kX13_used_c1.2.2.2.2.2.2.1 wf_X13_356 (.inl rfl) ?_
  refine kz_iload_n (M := kt_M594) kX13_used_c1.2.2.2.2.2.2.2.1 rfl ?_
  refine kz_aload_n (M := kt_M594) kX13_used_c2.1 rfl ?_
  refine kz_gfc (M := kt_M594) (x := 4218) (c := 12) (o := 0) kX13_used_c2.2.1 wf_X13_391 (.inl rfl) ?_
  refine kz_aload_n (M := kt_M594) kX13_used_c2.2.2.1 rfl ?_
  refine kz_gfi (M := kt_M594) (c := 12) (o := 0) kX13_used_c2.2.2.2.1 wf_X13_1168 (.inl rfl) ?_
  refine kz_iald (M := kt_M594) (c := 12) (o := 0) (k := 146) (a := (E.2.1 4218)) kX13_used_c2.2.2.2.2.1 ow_12_0_146 oa_12_0_146 ot_0 h (fun h => ?_)
  refine kz_iast (M := kt_M594) (c := 12) (o := 0) (k := 113) (a := (w_d w 12 0 113)) kX13_used_c2.2.2.2.2.2.1 ow_12_0_113 oa_12_0_113 ot_0 h (fun h => ?_)
  refine kz_aload_n (M := kt_M594) kX13_used_c2.2.2.2.2.2.2.1 rfl ?_
  refine kz_gfa (M := kt_M594) (c := 12) (o := 0) kX13_used_c2.2.2.2.2.2.2.2.1 wf_X13_350 (.inl rfl) ?_
  refine kz_iload_n (M := kt_M594) kX13_used_c3.1 rfl ?_
  refine kz_ialdR (M := kt_M594) (n := w_n w 12 0 111) (c := 12) (o := 0) (k := 111) (a := (w_d (ws_a w 12 0 113 (x1).toNatClampNeg (w_a w 12 0 146 (w_i w 12 0 161).toNatClampNeg)) 12 0 111)) (w_a w 12 0 111 (x1).toNatClampNeg) kX13_used_c3.2.1 ow_12_0_111 oa_12_0_111 ot_0 rd_n_a (rd_a_a rfl) h (fun h => ?_)
  exact kz_iret (M := kt_M594) kX13_used_c3.2.2.1 rfl rfl h
def zb_X13_used_p0 (E : zE) (L : Nat) (Q : kx_Rs → wS → Prop) (x1 : Int32) (w : wS) : Prop := (kx_inb x1 (w_n w 12 0 112) = true ∧ zw E (L - 22) kt_M439 [.ref (w_adr E.2.1 12 0), .int (w_a w 12 0 112 (x1).toNatClampNeg)] w (wk1 (fun v2 w1 => wle w w1 → (if v2 = 0 then zb_X13_used_p23 E L Q x1 w1 else zb_X13_used_p23 E L Q x1 (ws_i w1 12 0 132 ((w_i w1 12 0 132) + 1)))) (fun e w => Q (.inr e) w)))
theorem zt_X13_used_p0 {E : zE} {L : Nat} {Q : kx_Rs → wS → Prop} {x1 : Int32} {w : wS} (hL : 22 ≤ L) (h : zb_X13_used_p0 E L Q x1 w) : kzE E L kt_M594 0 [(0, .ref (w_adr E.2.1 12 0)), (1, .int x1)] [] w Q := by
  unfold zb_X13_used_p0 at h
  refine kz_aload_n (M := kt_M594) kX13_used_c0.1 rfl ?_
  refine kz_aload_n (M := kt_M594) kX13_used_c0.2.1 rfl ?_
  refine kz_gfa (M := kt_M594) (c := 12) (o := 0) kX13_used_c0.2.2.1 wf_X13_353 (.inl rfl) ?_
  refine kz_iload_n (M := kt_M594) kX13_used_c0.2.2.2.1 rfl ?_
  refine kz_iald (M := kt_M594) (c := 12) (o := 0) (k := 112) (a := (w_d w 12 0 112)) kX13_used_c0.2.2.2.2.1 ow_12_0_112 oa_12_0_112 ot_0 h (fun h => ?_)
  refine kz_cv1 (M := kt_M594) (c := 12) (o := 0) (As := [.int (w_a w 12 0 112 (x1).toNatClampNeg)]) (rest := []) kX13_used_c0.2.2.2.2.2.1 wl_X13_1195 wMv_439 rfl (.inl rfl) rfl (Nat.le_trans (Nat.le_of_ble_eq_true rfl) hL) (Nat.le_of_ble_eq_true rfl) (Nat.le_of_ble_eq_true rfl) h (fun v2 w1 hle h => ?_) (fun _ _ _ h => kzx_no rfl h)
  have h := h hle
  refine kz_if_eq (M := kt_M594) kX13_used_c0.2.2.2.2.2.2.1 (t := 23) rfl h (fun h => ?_) (fun h => ?_)
  · skip
    exact kz_weak [(0, .ref (w_adr E.2.1 12 0)), (1, .int x1)] ⟨rfl, ⟨rfl, trivial⟩⟩ rfl (zt_X13_used_p23 hL  h)
  · skip
    refine kz_aload_n (M := kt_M594) kX13_used_c0.2.2.2.2.2.2.2.1 rfl ?_
    refine kz_dup (M := kt_M594) kX13_used_c1.1 rfl ?_
    refine kz_gfi (M := kt_M594) (c := 12) (o := 0) kX13_used_c1.2.1 wf_X13_1198 (.inl rfl) ?_
    refine kz_ic (M := kt_M594) 1 kX13_used_c1.2.2.1 rfl ?_
    refine kz_iadd (M := kt_M594) kX13_used_c1.2.2.2.1 ?_
    refine kz_pfi (M := kt_M594) (c := 12) (o := 0) kX13_used_c1.2.2.2.2.1 wq_X13_1198 (.inl rfl) ?_
    exact kz_weak [(0, .ref (w_adr E.2.1 12 0)), (1, .int x1)] ⟨rfl, ⟨rfl, trivial⟩⟩ rfl (zt_X13_used_p23 hL  h)
def zL_X13_ends_p40 (E : zE) (L : Nat) (Q : kx_Rs → wS → Prop) (x1 : Int32) (x2 : Int32) (x3 : Int32) (w : wS) : Prop := kzE E L kt_M401 40 [(0, .ref (w_adr E.2.1 12 0)), (1, .int x1), (2, .int x2), (3, .int x3)] [] w Q
def zL_X13_ends_p14 (E : zE) (L : Nat) (Q : kx_Rs → wS → Prop) (x1 : Int32) (x2 : Int32) (x3 : Int32) (w : wS) : Prop := kzE E L kt_M401 14 [(0, .ref (w_adr E.2.1 12 0)), (1, .int x1), (2, .int x2), (3, .int x3)] [] w Q
def zb_X13_ends_p124 (E : zE) (L : Nat) (Q : kx_Rs → wS → Prop) (w : wS) : Prop := Q (.inl none) w
theorem zt_X13_ends_p124 {E : zE} {L : Nat} {Q : kx_Rs → wS → Prop} {w : wS} (hL : 21 ≤ L) (h : zb_X13_ends_p124 E L Q  w) : kzE E L kt_M401 124 [(0, .ref (w_adr E.2.1 12 0))] [] w Q := by
  unfold zb_X13_ends_p124 at h
  exact kz_ret (M := kt_M401) kX13_ends_c9.2.2.2.2.1 rfl h
def zb_X13_ends_p40 (E : zE) (L : Nat) (Q : kx_Rs → wS → Prop) (x1 : Int32) (x2 : Int32) (x3 : Int32) (w : wS) : Prop := (if w_i w 12 0 143 ≤ x3 then (kx_inb x1 (w_n w 12 0 145) = true ∧ (if 0 ≤ x2 then (kx_inb x1 (w_n w 12 0 150) = true ∧ zw E (L - 21) kt_M416 [.ref (w_adr E.2.1 12 0), .int (w_a w 12 0 150 (x1).toNatClampNeg)] (ws_a w 12 0 145 (x1).toNatClampNeg (vp_nar .boolean 0)) (wk0 (fun w1 => wle (ws_a w 12 0 145 (x1).toNatClampNeg (vp_nar .boolean 0)) w1 → (kx_inb x2 (w_n w1 12 0 152) = true ∧ (kx_inb x2 (w_n w1 12 0 152) = true ∧ (kx_inb x2 (w_n w1 12 0 152) = true ∧ (if 0 < w_a (ws_a w1 12 0 152 (x2).toNatClampNeg ((w_a w1 12 0 152 (x2).toNatClampNeg) - 1)) 12 0 152 (x2).toNatClampNeg then zb_X13_ends_p124 E L Q (ws_a w1 12 0 152 (x2).toNatClampNeg ((w_a w1 12 0 152 (x2).toNatClampNeg) - 1)) else (kx_inb x2 (w_n w1 12 0 147) = true ∧ (if w_a w1 12 0 147 (x2).toNatClampNeg = 5 then zw E (L - 21) kt_M460 [.ref (w_adr E.2.1 12 0), .int x2] (ws_a w1 12 0 152 (x2).toNatClampNeg ((w_a w1 12 0 152 (x2).toNatClampNeg) - 1)) (wk0 (fun w3 => wle (ws_a w1 12 0 152 (x2).toNatClampNeg ((w_a w1 12 0 152 (x2).toNatClampNeg) - 1)) w3 → (kx_inb x2 (w_n w3 12 0 147) = true ∧ zw E (L - 21) kt_M511 [.ref (w_adr E.2.1 12 0)] (ws_a w3 12 0 147 (x2).toNatClampNeg 0) (wk0 (fun w5 => wle (ws_a w3 12 0 147 (x2).toNatClampNeg 0) w5 → zw E (L - 21) kt_M513 [.ref (w_adr E.2.1 12 0)] w5 (wk0 (fun w7 => wle w5 w7 → Q (.inl none) w7) (fun e w => Q (.inr e) w))) (fun e w => Q (.inr e) w)))) (fun e w => Q (.inr e) w)) else zb_X13_ends_p124 E L Q (ws_a w1 12 0 152 (x2).toNatClampNeg ((w_a w1 12 0 152 (x2).toNatClampNeg) - 1))))))))) (fun e w => Q (.inr e) w))) else Q (.inl none) (ws_i (ws_a w 12 0 145 (x1).toNatClampNeg (vp_nar .boolean 0)) 12 0 124 1))) else (kx_inb (x3 + 1) (w_n w 12 0 144) = true ∧ (kx_inb x3 (w_n w 12 0 144) = true ∧ zL_X13_ends_p40 E L Q x1 x2 (x3 + 1) (ws_a w 12 0 144 (x3).toNatClampNeg (w_a w 12 0 144 ((x3 + 1)).toNatClampNeg)))))
theorem zt_X13_ends_p40 {E : zE} {L : Nat} {Q : kx_Rs → wS → Prop} {x1 : Int32} {x2 : Int32} {x3 : Int32} {w : wS} (hL : 21 ≤ L) (h : zb_X13_ends_p40 E L Q x1 x2 x3 w) : kzE E L kt_M401 40 [(0, .ref (w_adr E.2.1 12 0)), (1, .int x1), (2, .int x2), (3, .int x3)] [] w Q := by
  unfold zb_X13_ends_p40 at h
  refine kz_iload_n (M := kt_M401) kX13_ends_c3.1 rfl ?_
  refine kz_aload_n (M := kt_M401) kX13_ends_c3.2.1 rfl ?_
  refine kz_gfi (M := kt_M401) (c := 12) (o := 0) kX13_ends_c3.2.2.1 wf_X13_1186 (.inl rfl) ?_
  refine kz_icmp_ge (M := kt_M401) kX13_ends_c3.2.2.2.1 (t := 68) rfl h (fun h => ?_) (fun h => ?_)
  · skip
    refine kz_aload_n (M := kt_M401) kX13_ends_c5.1 rfl ?_
    refine kz_gfc (M := kt_M401) (x := 4217) (c := 12) (o := 0) kX13_ends_c5.2.1 wf_X13_388 (.inl rfl) ?_
    refine kz_iload_n (M := kt_M401) kX13_ends_c5.2.2.1 rfl ?_
    refine kz_ic (M := kt_M401) 0 kX13_ends_c5.2.2.2.1 rfl ?_
    refine kz_zast (M := kt_M401) (c := 12) (o := 0) (k := 145) (a := (E.2.1 4217)) kX13_ends_c5.2.2.2.2.1 ow_12_0_145 oa_12_0_145 ot_2 h (fun h => ?_)
    refine kz_iload_n (M := kt_M401) kX13_ends_c5.2.2.2.2.2.1 rfl ?_
    refine kz_if_ge (M := kt_M401) kX13_ends_c5.2.2.2.2.2.2.1 (t := 85) rfl h (fun h => ?_) (fun h => ?_)
    · skip
      refine kz_aload_n (M := kt_M401) kX13_ends_c6.2.2.2.1 rfl ?_
      refine kz_aload_n (M := kt_M401) kX13_ends_c6.2.2.2.2.1 rfl ?_
      refine kz_gfc (M := kt_M401) (x := 4222) (c := 12) (o := 0) kX13_ends_c6.2.2.2.2.2.1 wf_X13_403 (.inl rfl) ?_
      refine kz_iload_n (M := kt_M401) kX13_ends_c6.2.2.2.2.2.2.1 rfl ?_
      refine kz_ialdR (M := kt_M401) (n := w_n w 12 0 150) (c := 12) (o := 0) (k := 150) (a := (E.2.1 4222)) (w_a w 12 0 150 (x1).toNatClampNeg) kX13_ends_c6.2.2.2.2.2.2.2.1 ow_12_0_150 oa_12_0_150 ot_0 rd_n_a (rd_a_a rfl) h (fun h => ?_)
      refine kz_cv0 (M := kt_M401) (c := 12) (o := 0) (As := [.int (w_a w 12 0 150 (x1).toNatClampNeg)]) (rest := []) kX13_ends_c7.1 wl_X13_1299 wMv_416 rfl (.inl rfl) rfl (Nat.le_trans (Nat.le_of_ble_eq_true rfl) hL) (Nat.le_of_ble_eq_true rfl) (Nat.le_of_ble_eq_true rfl) h (fun w1 hle h => ?_) (fun _ _ _ h => kzx_no rfl h)
      have h := h hle
      refine kz_aload_n (M := kt_M401) kX13_ends_c7.2.1 rfl ?_
      refine kz_gfc (M := kt_M401) (x := 4224) (c := 12) (o := 0) kX13_ends_c7.2.2.1 wf_X13_409 (.inl rfl) ?_
      refine kz_iload_n (M := kt_M401) kX13_ends_c7.2.2.2.1 rfl ?_
      refine kz_dup2 (M := kt_M401) kX13_ends_c7.2.2.2.2.1 ⟨rfl, rfl⟩ ?_
      refine kz_iald (M := kt_M401) (c := 12) (o := 0) (k := 152) (a := (E.2.1 4224)) kX13_ends_c7.2.2.2.2.2.1 ow_12_0_152 oa_12_0_152 ot_0 h (fun h => ?_)
      refine kz_ic (M := kt_M401) 1 kX13_ends_c7.2.2.2.2.2.2.1 rfl ?_
      refine kz_isub (M := kt_M401) kX13_ends_c7.2.2.2.2.2.2.2.1 ?_
      refine kz_iast (M := kt_M401) (c := 12) (o := 0) (k := 152) (a := (E.2.1 4224)) kX13_ends_c8.1 ow_12_0_152 oa_12_0_152 ot_0 h (fun h => ?_)
      refine kz_aload_n (M := kt_M401) kX13_ends_c8.2.1 rfl ?_
      refine kz_gfc (M := kt_M401) (x := 4224) (c := 12) (o := 0) kX13_ends_c8.2.2.1 wf_X13_409 (.inl rfl) ?_
      refine kz_iload_n (M := kt_M401) kX13_ends_c8.2.2.2.1 rfl ?_
      refine kz_ialdR (M := kt_M401) (n := w_n w1 12 0 152) (c := 12) (o := 0) (k := 152) (a := (E.2.1 4224)) (w_a (ws_a w1 12 0 152 (x2).toNatClampNeg ((w_a w1 12 0 152 (x2).toNatClampNeg) - 1)) 12 0 152 (x2).toNatClampNeg) kX13_ends_c8.2.2.2.2.1 ow_12_0_152 oa_12_0_152 ot_0 rd_n_a rfl h (fun h => ?_)
      refine kz_if_gt (M := kt_M401) kX13_ends_c8.2.2.2.2.2.1 (t := 124) rfl h (fun h => ?_) (fun h => ?_)
      · skip
        exact kz_weak [(0, .ref (w_adr E.2.1 12 0))] ⟨rfl, trivial⟩ rfl (zt_X13_ends_p124 hL  h)
      · skip
        refine kz_aload_n (M := kt_M401) kX13_ends_c8.2.2.2.2.2.2.1 rfl ?_
        refine kz_gfc (M := kt_M401) (x := 4219) (c := 12) (o := 0) kX13_ends_c8.2.2.2.2.2.2.2.1 wf_X13_394 (.inl rfl) ?_
        refine kz_iload_n (M := kt_M401) kX13_ends_c9.1 rfl ?_
        refine kz_ialdR (M := kt_M401) (n := w_n w1 12 0 147) (c := 12) (o := 0) (k := 147) (a := (E.2.1 4219)) (w_a w1 12 0 147 (x2).toNatClampNeg) kX13_ends_c9.2.1 ow_12_0_147 oa_12_0_147 ot_0 rd_n_a (rd_a_a rfl) h (fun h => ?_)
        refine kz_ic (M := kt_M401) 5 kX13_ends_c9.2.2.1 rfl ?_
        refine kz_icmp_eq (M := kt_M401) kX13_ends_c9.2.2.2.1 (t := 125) rfl h (fun h => ?_) (fun h => ?_)
        · skip
          refine kz_aload_n (M := kt_M401) kX13_ends_c9.2.2.2.2.2.1 rfl ?_
          refine kz_iload_n (M := kt_M401) kX13_ends_c9.2.2.2.2.2.2.1 rfl ?_
          refine kz_cv0 (M := kt_M401) (c := 12) (o := 0) (As := [.int x2]) (rest := []) kX13_ends_c9.2.2.2.2.2.2.2.1 wl_X13_1331 wMv_460 rfl (.inl rfl) rfl (Nat.le_trans (Nat.le_of_ble_eq_true rfl) hL) (Nat.le_of_ble_eq_true rfl) (Nat.le_of_ble_eq_true rfl) h (fun w3 hle h => ?_) (fun _ _ _ h => kzx_no rfl h)
          have h := h hle
          refine kz_aload_n (M := kt_M401) kX13_ends_c10.1 rfl ?_
          refine kz_gfc (M := kt_M401) (x := 4219) (c := 12) (o := 0) kX13_ends_c10.2.1 wf_X13_394 (.inl rfl) ?_
          refine kz_iload_n (M := kt_M401) kX13_ends_c10.2.2.1 rfl ?_
          refine kz_ic (M := kt_M401) 0 kX13_ends_c10.2.2.2.1 rfl ?_
          refine kz_iast (M := kt_M401) (c := 12) (o := 0) (k := 147) (a := (E.2.1 4219)) kX13_ends_c10.2.2.2.2.1 ow_12_0_147 oa_12_0_147 ot_0 h (fun h => ?_)
          refine kz_aload_n (M := kt_M401) kX13_ends_c10.2.2.2.2.2.1 rfl ?_
          refine kz_cv0 (M := kt_M401) (c := 12) (o := 0) (As := []) (rest := []) kX13_ends_c10.2.2.2.2.2.2.1 wl_X13_1290 wMv_511 rfl (.inl rfl) rfl (Nat.le_trans (Nat.le_of_ble_eq_true rfl) hL) (Nat.le_of_ble_eq_true rfl) (Nat.le_of_ble_eq_true rfl) h (fun w5 hle h => ?_) (fun _ _ _ h => kzx_no rfl h)
          have h := h hle
          refine kz_aload_n (M := kt_M401) kX13_ends_c10.2.2.2.2.2.2.2.1 rfl ?_
          refine kz_cv0 (M := kt_M401) (c := 12) (o := 0) (As := []) (rest := []) kX13_ends_c11.1 wl_X13_1334 wMv_513 rfl (.inl rfl) rfl (Nat.le_trans (Nat.le_of_ble_eq_true rfl) hL) (Nat.le_of_ble_eq_true rfl) (Nat.le_of_ble_eq_true rfl) h (fun w7 hle h => ?_) (fun _ _ _ h => kzx_no rfl h)
          have h := h hle
          exact kz_ret (M := kt_M401) kX13_ends_c11.2.1 rfl h
        · skip
          exact kz_weak [(0, .ref (w_adr E.2.1 12 0))] ⟨rfl, trivial⟩ rfl (zt_X13_ends_p124 hL  h)
    · skip
      refine kz_aload_n (M := kt_M401) kX13_ends_c5.2.2.2.2.2.2.2.1 rfl ?_
      refine kz_ic (M := kt_M401) 1 kX13_ends_c6.1 rfl ?_
      refine kz_pfz (M := kt_M401) (c := 12) (o := 0) kX13_ends_c6.2.1 wq_X13_1328 (.inl rfl) (by decide) ?_
      exact kz_ret (M := kt_M401) kX13_ends_c6.2.2.1 rfl h
  · skip
    refine kz_aload_n (M := kt_M401) kX13_ends_c3.2.2.2.2.1 rfl ?_
    refine kz_gfc (M := kt_M401) (x := 4216) (c := 12) (o := 0) kX13_ends_c3.2.2.2.2.2.1 wf_X13_385 (.inl rfl) ?_
    refine kz_iload_n (M := kt_M401) kX13_ends_c3.2.2.2.2.2.2.1 rfl ?_
    refine kz_aload_n (M := kt_M401) kX13_ends_c3.2.2.2.2.2.2.2.1 rfl ?_
    refine kz_gfc (M := kt_M401) (x := 4216) (c := 12) (o := 0) kX13_ends_c4.1 wf_X13_385 (.inl rfl) ?_
    refine kz_iload_n (M := kt_M401) kX13_ends_c4.2.1 rfl ?_
    refine kz_ic (M := kt_M401) 1 kX13_ends_c4.2.2.1 rfl ?_
    refine kz_iadd (M := kt_M401) kX13_ends_c4.2.2.2.1 ?_
    refine kz_iald (M := kt_M401) (c := 12) (o := 0) (k := 144) (a := (E.2.1 4216)) kX13_ends_c4.2.2.2.2.1 ow_12_0_144 oa_12_0_144 ot_0 h (fun h => ?_)
    refine kz_iast (M := kt_M401) (c := 12) (o := 0) (k := 144) (a := (E.2.1 4216)) kX13_ends_c4.2.2.2.2.2.1 ow_12_0_144 oa_12_0_144 ot_0 h (fun h => ?_)
    refine kz_inc (M := kt_M401) [(0, .ref (w_adr E.2.1 12 0)), (1, .int x1), (2, .int x2)] kX13_ends_c4.2.2.2.2.2.2.1 rfl (Nat.le_of_ble_eq_true rfl) ⟨⟨rfl, rfl, .inl rfl⟩, ⟨⟨rfl, rfl, .inl rfl⟩, ⟨⟨rfl, rfl, .inr rfl⟩, trivial⟩⟩⟩ rfl ?_
    refine kz_goto (M := kt_M401) kX13_ends_c4.2.2.2.2.2.2.2.1 (t := 40) rfl ?_
    exact kz_weak [(0, .ref (w_adr E.2.1 12 0)), (1, .int x1), (2, .int x2), (3, .int (x3 + 1))] ⟨rfl, ⟨rfl, ⟨rfl, ⟨rfl, trivial⟩⟩⟩⟩ rfl h
def zb_X13_ends_p14 (E : zE) (L : Nat) (Q : kx_Rs → wS → Prop) (x1 : Int32) (x2 : Int32) (x3 : Int32) (w : wS) : Prop := (kx_inb x3 (w_n w 12 0 144) = true ∧ (if w_a w 12 0 144 (x3).toNatClampNeg = x1 then zL_X13_ends_p40 E L Q x1 x2 x3 (ws_i w 12 0 143 ((w_i w 12 0 143) - 1)) else zL_X13_ends_p14 E L Q x1 x2 (x3 + 1) w))
theorem zt_X13_ends_p14 {E : zE} {L : Nat} {Q : kx_Rs → wS → Prop} {x1 : Int32} {x2 : Int32} {x3 : Int32} {w : wS} (hL : 21 ≤ L) (h : zb_X13_ends_p14 E L Q x1 x2 x3 w) : kzE E L kt_M401 14 [(0, .ref (w_adr E.2.1 12 0)), (1, .int x1), (2, .int x2), (3, .int x3)] [] w Q := by
  unfold zb_X13_ends_p14 at h
  refine kz_aload_n (M := kt_M401) kX13_ends_c1.2.2.1 rfl ?_
  refine kz_gfc (M := kt_M401) (x := 4216) (c := 12) (o := 0) kX13_ends_c1.2.2.2.1 wf_X13_385 (.inl rfl) ?_
  refine kz_iload_n (M := kt_M401) kX13_ends_c1.2.2.2.2.1 rfl ?_
  refine kz_iald (M := kt_M401) (c := 12) (o := 0) (k := 144) (a := (E.2.1 4216)) kX13_ends_c1.2.2.2.2.2.1 ow_12_0_144 oa_12_0_144 ot_0 h (fun h => ?_)
  refine kz_iload_n (M := kt_M401) kX13_ends_c1.2.2.2.2.2.2.1 rfl ?_
  refine kz_icmp_eq (M := kt_M401) kX13_ends_c1.2.2.2.2.2.2.2.1 (t := 30) rfl h (fun h => ?_) (fun h => ?_)
  · skip
    refine kz_aload_n (M := kt_M401) kX13_ends_c2.2.2.1 rfl ?_
    refine kz_dup (M := kt_M401) kX13_ends_c2.2.2.2.1 rfl ?_
    refine kz_gfi (M := kt_M401) (c := 12) (o := 0) kX13_ends_c2.2.2.2.2.1 wf_X13_1186 (.inl rfl) ?_
    refine kz_ic (M := kt_M401) 1 kX13_ends_c2.2.2.2.2.2.1 rfl ?_
    refine kz_isub (M := kt_M401) kX13_ends_c2.2.2.2.2.2.2.1 ?_
    refine kz_pfi (M := kt_M401) (c := 12) (o := 0) kX13_ends_c2.2.2.2.2.2.2.2.1 wq_X13_1186 (.inl rfl) ?_
    exact kz_weak [(0, .ref (w_adr E.2.1 12 0)), (1, .int x1), (2, .int x2), (3, .int x3)] ⟨rfl, ⟨rfl, ⟨rfl, ⟨rfl, trivial⟩⟩⟩⟩ rfl h
  · skip
    refine kz_inc (M := kt_M401) [(0, .ref (w_adr E.2.1 12 0)), (1, .int x1), (2, .int x2)] kX13_ends_c2.1 rfl (Nat.le_of_ble_eq_true rfl) ⟨⟨rfl, rfl, .inl rfl⟩, ⟨⟨rfl, rfl, .inl rfl⟩, ⟨⟨rfl, rfl, .inr rfl⟩, trivial⟩⟩⟩ rfl ?_
    refine kz_goto (M := kt_M401) kX13_ends_c2.2.1 (t := 14) rfl ?_
    exact kz_weak [(0, .ref (w_adr E.2.1 12 0)), (1, .int x1), (2, .int x2), (3, .int (x3 + 1))] ⟨rfl, ⟨rfl, ⟨rfl, ⟨rfl, trivial⟩⟩⟩⟩ rfl h
def zb_X13_ends_p0 (E : zE) (L : Nat) (Q : kx_Rs → wS → Prop) (w : wS) : Prop := (kx_inb (w_i w 12 0 161) (w_n w 12 0 148) = true ∧ zL_X13_ends_p14 E L Q (w_i w 12 0 161) (w_a w 12 0 148 (w_i w 12 0 161).toNatClampNeg) 0 w)
theorem zt_X13_ends_p0 {E : zE} {L : Nat} {Q : kx_Rs → wS → Prop} {w : wS} (hL : 21 ≤ L) (h : zb_X13_ends_p0 E L Q  w) : kzE E L kt_M401 0 [(0, .ref (w_adr E.2.1 12 0))] [] w Q := by
  unfold zb_X13_ends_p0 at h
  refine kz_aload_n (M := kt_M401) kX13_ends_c0.1 rfl ?_
  refine kz_gfi (M := kt_M401) (c := 12) (o := 0) kX13_ends_c0.2.1 wf_X13_1168 (.inl rfl) ?_
  refine kz_sti_n (M := kt_M401) [(0, .ref (w_adr E.2.1 12 0))] kX13_ends_c0.2.2.1 (Nat.le_of_ble_eq_true rfl) ⟨⟨rfl, rfl, .inr rfl⟩, trivial⟩ rfl ?_
  refine kz_aload_n (M := kt_M401) kX13_ends_c0.2.2.2.1 rfl ?_
  refine kz_gfc (M := kt_M401) (x := 4220) (c := 12) (o := 0) kX13_ends_c0.2.2.2.2.1 wf_X13_397 (.inl rfl) ?_
  refine kz_iload_n (M := kt_M401) kX13_ends_c0.2.2.2.2.2.1 rfl ?_
  refine kz_iald (M := kt_M401) (c := 12) (o := 0) (k := 148) (a := (E.2.1 4220)) kX13_ends_c0.2.2.2.2.2.2.1 ow_12_0_148 oa_12_0_148 ot_0 h (fun h => ?_)
  refine kz_sti_n (M := kt_M401) [(0, .ref (w_adr E.2.1 12 0)), (1, .int (w_i w 12 0 161))] kX13_ends_c0.2.2.2.2.2.2.2.1 (Nat.le_of_ble_eq_true rfl) ⟨⟨rfl, rfl, .inl rfl⟩, ⟨⟨rfl, rfl, .inr rfl⟩, trivial⟩⟩ rfl ?_
  refine kz_ic (M := kt_M401) 0 kX13_ends_c1.1 rfl ?_
  refine kz_sti_n (M := kt_M401) [(0, .ref (w_adr E.2.1 12 0)), (1, .int (w_i w 12 0 161)), (2, .int (w_a w 12 0 148 (w_i w 12 0 161).toNatClampNeg))] kX13_ends_c1.2.1 (Nat.le_of_ble_eq_true rfl) ⟨⟨rfl, rfl, .inl rfl⟩, ⟨⟨rfl, rfl, .inl rfl⟩, ⟨⟨rfl, rfl, .inr rfl⟩, trivial⟩⟩⟩ rfl ?_
  exact kz_weak [(0, .ref (w_adr E.2.1 12 0)), (1, .int (w_i w 12 0 161)), (2, .int (w_a w 12 0 148 (w_i w 12 0 161).toNatClampNeg)), (3, .int 0)] ⟨rfl, ⟨rfl, ⟨rfl, ⟨rfl, trivial⟩⟩⟩⟩ rfl h
def zL_X13_run_p42 (E : zE) (L : Nat) (Q : kx_Rs → wS → Prop) (x1 : Int32) (x2 : Int32) (w : wS) : Prop := kzE E L kt_M527 42 [(0, .ref (w_adr E.2.1 12 0)), (1, .int x1), (2, .int x2)] [] w Q
def zb_X13_run_p99 (E : zE) (L : Nat) (Q : kx_Rs → wS → Prop) (x2 : Int32) (w : wS) : Prop := Q (.inl (some (.int x2))) w
theorem zt_X13_run_p99 {E : zE} {L : Nat} {Q : kx_Rs → wS → Prop} {x2 : Int32} {w : wS} (hL : 25 ≤ L) (h : zb_X13_run_p99 E L Q x2 w) : kzE E L kt_M527 99 [(0, .ref (w_adr E.2.1 12 0)), (2, .int x2)] [] w Q := by
  unfold zb_X13_run_p99 at h
  refine kz_iload_n (M := kt_M527) kX13_run_c6.2.2.2.2.2.1 rfl ?_
  exact kz_iret (M := kt_M527) kX13_run_c6.2.2.2.2.2.2.1 rfl rfl h
def zb_X13_run_p89 (E : zE) (L : Nat) (Q : kx_Rs → wS → Prop) (x1 : Int32) (x2 : Int32) (w : wS) : Prop := zw E (L - 25) kt_M544 [.ref (w_adr E.2.1 12 0)] w (wk0 (fun w1 => wle w w1 → zL_X13_run_p42 E L Q x1 (x2 + 1) w1) (fun e w => Q (.inr e) w))
theorem zt_X13_run_p89 {E : zE} {L : Nat} {Q : kx_Rs → wS → Prop} {x1 : Int32} {x2 : Int32} {w : wS} (hL : 25 ≤ L) (h : zb_X13_run_p89 E L Q x1 x2 w) : kzE E L kt_M527 89 [(0, .ref (w_adr E.2.1 12 0)), (1, .int x1), (2, .int x2)] [] w Q := by
  unfold zb_X13_run_p89 at h
  refine kz_aload_n (M := kt_M527) kX13_run_c6.2.1 rfl ?_
  refine kz_cv0 (M := kt_M527) (c := 12) (o := 0) (As := []) (rest := []) kX13_run_c6.2.2.1 wl_X13_1498 wMv_544 rfl (.inl rfl) rfl (Nat.le_trans (Nat.le_of_ble_eq_true rfl) hL) (Nat.le_of_ble_eq_true rfl) (Nat.le_of_ble_eq_true rfl) h (fun w1 hle h => ?_) (fun _ _ _ h => kzx_no rfl h)
  have h := h hle
  refine kz_inc (M := kt_M527) [(0, .ref (w_adr E.2.1 12 0)), (1, .int x1)] kX13_run_c6.2.2.2.1 rfl (Nat.le_of_ble_eq_true rfl) ⟨⟨rfl, rfl, .inl rfl⟩, ⟨⟨rfl, rfl, .inr rfl⟩, trivial⟩⟩ rfl ?_
  refine kz_goto (M := kt_M527) kX13_run_c6.2.2.2.2.1 (t := 42) rfl ?_
  exact kz_weak [(0, .ref (w_adr E.2.1 12 0)), (1, .int x1), (2, .int (x2 + 1))] ⟨rfl, ⟨rfl, ⟨rfl, trivial⟩⟩⟩ rfl h
def zb_X13_run_p42 (E : zE) (L : Nat) (Q : kx_Rs → wS → Prop) (x1 : Int32) (x2 : Int32) (w : wS) : Prop := (if x1 ≤ x2 then zb_X13_run_p99 E L Q x2 w else (if ¬ w_i w 12 0 124 = 0 then zb_X13_run_p99 E L Q x2 w else zw E (L - 21) kt_M436 [.ref (w_adr E.2.1 12 0)] w (wk1 (fun v2 w1 => wle w w1 → (if ¬ v2 = 0 then zb_X13_run_p89 E L Q x1 x2 w1 else zw E (L - 25) kt_M489 [.ref (w_adr E.2.1 12 0)] w1 (wkl (fun v4 w3 => wle w1 w3 → (if ¬ (lg_cmp v4 0) = 0 then zw E (L - 23) kt_M599 [.ref (w_adr E.2.1 12 0)] (ws_i w3 12 0 128 ((w_i w3 12 0 128) + ((v4).toInt32))) (wk0 (fun w5 => wle (ws_i w3 12 0 128 ((w_i w3 12 0 128) + ((v4).toInt32))) w5 → zb_X13_run_p89 E L Q x1 x2 w5) (fun e w => Q (.inr e) w)) else Q (.inl (some (.int x2))) w3)) (fun e w => Q (.inr e) w)))) (fun e w => Q (.inr e) w))))
theorem zt_X13_run_p42 {E : zE} {L : Nat} {Q : kx_Rs → wS → Prop} {x1 : Int32} {x2 : Int32} {w : wS} (hL : 25 ≤ L) (h : zb_X13_run_p42 E L Q x1 x2 w) : kzE E L kt_M527 42 [(0, .ref (w_adr E.2.1 12 0)), (1, .int x1), (2, .int x2)] [] w Q := by
  unfold zb_X13_run_p42 at h
  refine kz_iload_n (M := kt_M527) kX13_run_c2.2.2.2.2.2.2.1 rfl ?_
  refine kz_iload_n (M := kt_M527) kX13_run_c2.2.2.2.2.2.2.2.1 rfl ?_
  refine kz_icmp_ge (M := kt_M527) kX13_run_c3.1 (t := 99) rfl h (fun h => ?_) (fun h => ?_)
  · skip
    exact kz_weak [(0, .ref (w_adr E.2.1 12 0)), (2, .int x2)] ⟨rfl, ⟨rfl, trivial⟩⟩ rfl (zt_X13_run_p99 hL  h)
  · skip
    refine kz_aload_n (M := kt_M527) kX13_run_c3.2.1 rfl ?_
    refine kz_gfi (M := kt_M527) (c := 12) (o := 0) kX13_run_c3.2.2.1 wf_X13_1328 (.inl rfl) ?_
    refine kz_if_ne (M := kt_M527) kX13_run_c3.2.2.2.1 (t := 99) rfl h (fun h => ?_) (fun h => ?_)
    · skip
      exact kz_weak [(0, .ref (w_adr E.2.1 12 0)), (2, .int x2)] ⟨rfl, ⟨rfl, trivial⟩⟩ rfl (zt_X13_run_p99 hL  h)
    · skip
      refine kz_aload_n (M := kt_M527) kX13_run_c3.2.2.2.2.1 rfl ?_
      refine kz_cv1 (M := kt_M527) (c := 12) (o := 0) (As := []) (rest := []) kX13_run_c3.2.2.2.2.2.1 wl_X13_1485 wMv_436 rfl (.inl rfl) rfl (Nat.le_trans (Nat.le_of_ble_eq_true rfl) hL) (Nat.le_of_ble_eq_true rfl) (Nat.le_of_ble_eq_true rfl) h (fun v2 w1 hle h => ?_) (fun _ _ _ h => kzx_no rfl h)
      have h := h hle
      refine kz_if_ne (M := kt_M527) kX13_run_c3.2.2.2.2.2.2.1 (t := 89) rfl h (fun h => ?_) (fun h => ?_)
      · skip
        exact kz_weak [(0, .ref (w_adr E.2.1 12 0)), (1, .int x1), (2, .int x2)] ⟨rfl, ⟨rfl, ⟨rfl, trivial⟩⟩⟩ rfl (zt_X13_run_p89 hL  h)
      · skip
        refine kz_aload_n (M := kt_M527) kX13_run_c3.2.2.2.2.2.2.2.1 rfl ?_
        refine kz_cvl (M := kt_M527) (c := 12) (o := 0) (As := []) (rest := []) kX13_run_c4.1 wl_X13_1488 wMv_489 rfl (.inl rfl) rfl (Nat.le_trans (Nat.le_of_ble_eq_true rfl) hL) (Nat.le_of_ble_eq_true rfl) (Nat.le_of_ble_eq_true rfl) h (fun v4 w3 hle h => ?_) (fun _ _ _ h => kzx_no rfl h)
        have h := h hle
        refine kz_stl_n (M := kt_M527) [(0, .ref (w_adr E.2.1 12 0)), (1, .int x1), (2, .int x2)] kX13_run_c4.2.1 (Nat.le_of_ble_eq_true rfl) ⟨⟨rfl, rfl, .inl rfl⟩, ⟨⟨rfl, rfl, .inl rfl⟩, ⟨⟨rfl, rfl, .inr rfl⟩, trivial⟩⟩⟩ rfl rfl ?_
        refine kz_lload_n (M := kt_M527) kX13_run_c4.2.2.1 rfl ?_
        refine kz_lconst (M := kt_M527) kX13_run_c4.2.2.2.1 ?_
        refine kz_lcmp (M := kt_M527) kX13_run_c4.2.2.2.2.1 ?_
        refine kz_if_ne (M := kt_M527) kX13_run_c4.2.2.2.2.2.1 (t := 74) rfl h (fun h => ?_) (fun h => ?_)
        · skip
          refine kz_aload_n (M := kt_M527) kX13_run_c5.1 rfl ?_
          refine kz_dup (M := kt_M527) kX13_run_c5.2.1 rfl ?_
          refine kz_gfi (M := kt_M527) (c := 12) (o := 0) kX13_run_c5.2.2.1 wf_X13_1388 (.inl rfl) ?_
          refine kz_lload_n (M := kt_M527) kX13_run_c5.2.2.2.1 rfl ?_
          refine kz_l2i (M := kt_M527) kX13_run_c5.2.2.2.2.1 ?_
          refine kz_iadd (M := kt_M527) kX13_run_c5.2.2.2.2.2.1 ?_
          refine kz_pfi (M := kt_M527) (c := 12) (o := 0) kX13_run_c5.2.2.2.2.2.2.1 wq_X13_1388 (.inl rfl) ?_
          refine kz_aload_n (M := kt_M527) kX13_run_c5.2.2.2.2.2.2.2.1 rfl ?_
          refine kz_cv0 (M := kt_M527) (c := 12) (o := 0) (As := []) (rest := []) kX13_run_c6.1 wl_X13_1476 wMv_599 rfl (.inl rfl) rfl (Nat.le_trans (Nat.le_of_ble_eq_true rfl) hL) (Nat.le_of_ble_eq_true rfl) (Nat.le_of_ble_eq_true rfl) h (fun w5 hle h => ?_) (fun _ _ _ h => kzx_no rfl h)
          have h := h hle
          exact kz_weak [(0, .ref (w_adr E.2.1 12 0)), (1, .int x1), (2, .int x2)] ⟨rfl, ⟨rfl, ⟨rfl, trivial⟩⟩⟩ rfl (zt_X13_run_p89 hL  h)
        · skip
          refine kz_iload_n (M := kt_M527) kX13_run_c4.2.2.2.2.2.2.1 rfl ?_
          exact kz_iret (M := kt_M527) kX13_run_c4.2.2.2.2.2.2.2.1 rfl rfl h
def zb_X13_run_p28 (E : zE) (L : Nat) (Q : kx_Rs → wS → Prop) (x1 : Int32) (y0 : Int32) (w : wS) : Prop := (if y0 ≤ 0 then zL_X13_run_p42 E L Q x1 0 (ws_i w 12 0 1 y0) else Q (.inl (some (.int 0))) (ws_i w 12 0 1 y0))
theorem zt_X13_run_p28 {E : zE} {L : Nat} {Q : kx_Rs → wS → Prop} {x1 : Int32} {y0 : Int32} {w : wS} (hL : 25 ≤ L) (h : zb_X13_run_p28 E L Q x1 y0 w) : kzE E L kt_M527 28 [(0, .ref (w_adr E.2.1 12 0)), (1, .int x1)] [.int y0, .ref (w_adr E.2.1 12 0)] w Q := by
  unfold zb_X13_run_p28 at h
  refine kz_pfi (M := kt_M527) (c := 12) (o := 0) kX13_run_c1.2.2.2.2.2.2.1 wq_X13_451 (.inl rfl) ?_
  refine kz_aload_n (M := kt_M527) kX13_run_c1.2.2.2.2.2.2.2.1 rfl ?_
  refine kz_gfiR (M := kt_M527) (c := 12) (o := 0) y0 kX13_run_c2.1 wf_X13_451 (.inl rfl) rd_i_e ?_
  refine kz_if_le (M := kt_M527) kX13_run_c2.2.1 (t := 40) rfl h (fun h => ?_) (fun h => ?_)
  · skip
    refine kz_ic (M := kt_M527) 0 kX13_run_c2.2.2.2.2.1 rfl ?_
    refine kz_sti_n (M := kt_M527) [(0, .ref (w_adr E.2.1 12 0)), (1, .int x1)] kX13_run_c2.2.2.2.2.2.1 (Nat.le_of_ble_eq_true rfl) ⟨⟨rfl, rfl, .inl rfl⟩, ⟨⟨rfl, rfl, .inr rfl⟩, trivial⟩⟩ rfl ?_
    exact kz_weak [(0, .ref (w_adr E.2.1 12 0)), (1, .int x1), (2, .int 0)] ⟨rfl, ⟨rfl, ⟨rfl, trivial⟩⟩⟩ rfl h
  · skip
    refine kz_ic (M := kt_M527) 0 kX13_run_c2.2.2.1 rfl ?_
    exact kz_iret (M := kt_M527) kX13_run_c2.2.2.2.1 rfl rfl h
def zb_X13_run_p12 (E : zE) (L : Nat) (Q : kx_Rs → wS → Prop) (x1 : Int32) (w : wS) : Prop := zb_X13_run_p28 E L Q x1 1 w
theorem zt_X13_run_p12 {E : zE} {L : Nat} {Q : kx_Rs → wS → Prop} {x1 : Int32} {w : wS} (hL : 25 ≤ L) (h : zb_X13_run_p12 E L Q x1 w) : kzE E L kt_M527 12 [(0, .ref (w_adr E.2.1 12 0)), (1, .int x1)] [.ref (w_adr E.2.1 12 0)] w Q := by
  unfold zb_X13_run_p12 at h
  refine kz_ic (M := kt_M527) 1 kX13_run_c0.2.2.2.2.2.2.1 rfl ?_
  refine kz_goto (M := kt_M527) kX13_run_c0.2.2.2.2.2.2.2.1 (t := 28) rfl ?_
  exact kz_weak [(0, .ref (w_adr E.2.1 12 0)), (1, .int x1)] ⟨rfl, ⟨rfl, trivial⟩⟩ rfl (zt_X13_run_p28 hL  h)
def zb_X13_run_p0 (E : zE) (L : Nat) (Q : kx_Rs → wS → Prop) (x1 : Int32) (w : wS) : Prop := (if x1 < 0 then zb_X13_run_p12 E L Q x1 w else (if x1 ≤ 2000 then (if ¬ w_i w 12 0 123 = 0 then zb_X13_run_p28 E L Q x1 0 w else zb_X13_run_p28 E L Q x1 2 w) else zb_X13_run_p12 E L Q x1 w))
theorem zt_X13_run_p0 {E : zE} {L : Nat} {Q : kx_Rs → wS → Prop} {x1 : Int32} {w : wS} (hL : 25 ≤ L) (h : zb_X13_run_p0 E L Q x1 w) : kzE E L kt_M527 0 [(0, .ref (w_adr E.2.1 12 0)), (1, .int x1)] [] w Q := by
  unfold zb_X13_run_p0 at h
  refine kz_aload_n (M := kt_M527) kX13_run_c0.1 rfl ?_
  refine kz_iload_n (M := kt_M527) kX13_run_c0.2.1 rfl ?_
  refine kz_if_lt (M := kt_M527) kX13_run_c0.2.2.1 (t := 12) rfl h (fun h => ?_) (fun h => ?_)
  · skip
    exact kz_weak [(0, .ref (w_adr E.2.1 12 0)), (1, .int x1)] ⟨rfl, ⟨rfl, trivial⟩⟩ rfl (zt_X13_run_p12 hL  h)
  · skip
    refine kz_iload_n (M := kt_M527) kX13_run_c0.2.2.2.1 rfl ?_
    refine kz_si (M := kt_M527) 2000 kX13_run_c0.2.2.2.2.1 rfl ?_
    refine kz_icmp_le (M := kt_M527) kX13_run_c0.2.2.2.2.2.1 (t := 16) rfl h (fun h => ?_) (fun h => ?_)
    · skip
      refine kz_aload_n (M := kt_M527) kX13_run_c1.1 rfl ?_
      refine kz_gfi (M := kt_M527) (c := 12) (o := 0) kX13_run_c1.2.1 wf_X13_1122 (.inl rfl) ?_
      refine kz_if_ne (M := kt_M527) kX13_run_c1.2.2.1 (t := 27) rfl h (fun h => ?_) (fun h => ?_)
      · skip
        refine kz_ic (M := kt_M527) 0 kX13_run_c1.2.2.2.2.2.1 rfl ?_
        exact kz_weak [(0, .ref (w_adr E.2.1 12 0)), (1, .int x1)] ⟨rfl, ⟨rfl, trivial⟩⟩ rfl (zt_X13_run_p28 hL  h)
      · skip
        refine kz_ic (M := kt_M527) 2 kX13_run_c1.2.2.2.1 rfl ?_
        refine kz_goto (M := kt_M527) kX13_run_c1.2.2.2.2.1 (t := 28) rfl ?_
        exact kz_weak [(0, .ref (w_adr E.2.1 12 0)), (1, .int x1)] ⟨rfl, ⟨rfl, trivial⟩⟩ rfl (zt_X13_run_p28 hL  h)
    · skip
      exact kz_weak [(0, .ref (w_adr E.2.1 12 0)), (1, .int x1)] ⟨rfl, ⟨rfl, trivial⟩⟩ rfl (zt_X13_run_p12 hL  h)
def zL_X13_isAnyReady_p2 (E : zE) (L : Nat) (Q : kx_Rs → wS → Prop) (x1 : Int32) (w : wS) : Prop := kzE E L kt_M436 2 [(0, .ref (w_adr E.2.1 12 0)), (1, .int x1)] [] w Q
def zb_X13_isAnyReady_p2 (E : zE) (L : Nat) (Q : kx_Rs → wS → Prop) (x1 : Int32) (w : wS) : Prop := (if w_i w 12 0 143 ≤ x1 then Q (.inl (some (.int 0))) w else (kx_inb x1 (w_n w 12 0 144) = true ∧ (kx_inb (w_a w 12 0 144 (x1).toNatClampNeg) (w_n w 12 0 147) = true ∧ (if ¬ w_a w 12 0 147 (w_a w 12 0 144 (x1).toNatClampNeg).toNatClampNeg = 0 then zL_X13_isAnyReady_p2 E L Q (x1 + 1) w else Q (.inl (some (.int 1))) w))))
theorem zt_X13_isAnyReady_p2 {E : zE} {L : Nat} {Q : kx_Rs → wS → Prop} {x1 : Int32} {w : wS} (hL : 19 ≤ L) (h : zb_X13_isAnyReady_p2 E L Q x1 w) : kzE E L kt_M436 2 [(0, .ref (w_adr E.2.1 12 0)), (1, .int x1)] [] w Q := by
  unfold zb_X13_isAnyReady_p2 at h
  refine kz_iload_n (M := kt_M436) kX13_isAnyReady_c0.2.2.1 rfl ?_
  refine kz_aload_n (M := kt_M436) kX13_isAnyReady_c0.2.2.2.1 rfl ?_
  refine kz_gfi (M := kt_M436) (c := 12) (o := 0) kX13_isAnyReady_c0.2.2.2.2.1 wf_X13_1186 (.inl rfl) ?_
  refine kz_icmp_ge (M := kt_M436) kX13_isAnyReady_c0.2.2.2.2.2.1 (t := 32) rfl h (fun h => ?_) (fun h => ?_)
  · skip
    refine kz_ic (M := kt_M436) 0 kX13_isAnyReady_c2.2.2.1 rfl ?_
    exact kz_iretz (M := kt_M436) kX13_isAnyReady_c2.2.2.2.1 rfl (by decide) h
  · skip
    refine kz_aload_n (M := kt_M436) kX13_isAnyReady_c0.2.2.2.2.2.2.1 rfl ?_
    refine kz_gfc (M := kt_M436) (x := 4219) (c := 12) (o := 0) kX13_isAnyReady_c0.2.2.2.2.2.2.2.1 wf_X13_394 (.inl rfl) ?_
    refine kz_aload_n (M := kt_M436) kX13_isAnyReady_c1.1 rfl ?_
    refine kz_gfc (M := kt_M436) (x := 4216) (c := 12) (o := 0) kX13_isAnyReady_c1.2.1 wf_X13_385 (.inl rfl) ?_
    refine kz_iload_n (M := kt_M436) kX13_isAnyReady_c1.2.2.1 rfl ?_
    refine kz_iald (M := kt_M436) (c := 12) (o := 0) (k := 144) (a := (E.2.1 4216)) kX13_isAnyReady_c1.2.2.2.1 ow_12_0_144 oa_12_0_144 ot_0 h (fun h => ?_)
    refine kz_iald (M := kt_M436) (c := 12) (o := 0) (k := 147) (a := (E.2.1 4219)) kX13_isAnyReady_c1.2.2.2.2.1 ow_12_0_147 oa_12_0_147 ot_0 h (fun h => ?_)
    refine kz_if_ne (M := kt_M436) kX13_isAnyReady_c1.2.2.2.2.2.1 (t := 26) rfl h (fun h => ?_) (fun h => ?_)
    · skip
      refine kz_inc (M := kt_M436) [(0, .ref (w_adr E.2.1 12 0))] kX13_isAnyReady_c2.1 rfl (Nat.le_of_ble_eq_true rfl) ⟨⟨rfl, rfl, .inr rfl⟩, trivial⟩ rfl ?_
      refine kz_goto (M := kt_M436) kX13_isAnyReady_c2.2.1 (t := 2) rfl ?_
      exact kz_weak [(0, .ref (w_adr E.2.1 12 0)), (1, .int (x1 + 1))] ⟨rfl, ⟨rfl, trivial⟩⟩ rfl h
    · skip
      refine kz_ic (M := kt_M436) 1 kX13_isAnyReady_c1.2.2.2.2.2.2.1 rfl ?_
      exact kz_iretz (M := kt_M436) kX13_isAnyReady_c1.2.2.2.2.2.2.2.1 rfl (by decide) h
def zb_X13_isAnyReady_p0 (E : zE) (L : Nat) (Q : kx_Rs → wS → Prop) (w : wS) : Prop := zL_X13_isAnyReady_p2 E L Q 0 w
theorem zt_X13_isAnyReady_p0 {E : zE} {L : Nat} {Q : kx_Rs → wS → Prop} {w : wS} (hL : 19 ≤ L) (h : zb_X13_isAnyReady_p0 E L Q  w) : kzE E L kt_M436 0 [(0, .ref (w_adr E.2.1 12 0))] [] w Q := by
  unfold zb_X13_isAnyReady_p0 at h
  refine kz_ic (M := kt_M436) 0 kX13_isAnyReady_c0.1 rfl ?_
  refine kz_sti_n (M := kt_M436) [(0, .ref (w_adr E.2.1 12 0))] kX13_isAnyReady_c0.2.1 (Nat.le_of_ble_eq_true rfl) ⟨⟨rfl, rfl, .inr rfl⟩, trivial⟩ rfl ?_
  exact kz_weak [(0, .ref (w_adr E.2.1 12 0)), (1, .int 0)] ⟨rfl, ⟨rfl, trivial⟩⟩ rfl h
def zL_X13_nearest_p53 (E : zE) (L : Nat) (Q : kx_Rs → wS → Prop) (x1 : Int64) (x3 : Int32) (x4 : Int32) (x5 : Int32) (w : wS) : Prop := kzE E L kt_M489 53 [(0, .ref (w_adr E.2.1 12 0)), (1, .long (x1)), (3, .int x3), (4, .int x4), (5, .int x5)] [] w Q
def zL_X13_nearest_p4 (E : zE) (L : Nat) (Q : kx_Rs → wS → Prop) (x1 : Int64) (x3 : Int32) (w : wS) : Prop := kzE E L kt_M489 4 [(0, .ref (w_adr E.2.1 12 0)), (1, .long (x1)), (3, .int x3)] [] w Q
def zb_X13_nearest_p116 (E : zE) (L : Nat) (Q : kx_Rs → wS → Prop) (x1 : Int64) (x3 : Int32) (w : wS) : Prop := zL_X13_nearest_p4 E L Q x1 (x3 + 1) w
theorem zt_X13_nearest_p116 {E : zE} {L : Nat} {Q : kx_Rs → wS → Prop} {x1 : Int64} {x3 : Int32} {w : wS} (hL : 25 ≤ L) (h : zb_X13_nearest_p116 E L Q x1 x3 w) : kzE E L kt_M489 116 [(0, .ref (w_adr E.2.1 12 0)), (1, .long (x1)), (3, .int x3)] [] w Q := by
  unfold zb_X13_nearest_p116 at h
  refine kz_inc (M := kt_M489) [(0, .ref (w_adr E.2.1 12 0)), (1, .long (x1))] kX13_nearest_c8.2.2.2.1 rfl (Nat.le_of_ble_eq_true rfl) ⟨⟨rfl, rfl, .inl rfl⟩, ⟨⟨rfl, rfl, .inl rfl⟩, trivial⟩⟩ rfl ?_
  refine kz_goto (M := kt_M489) kX13_nearest_c8.2.2.2.2.1 (t := 4) rfl ?_
  exact kz_weak [(0, .ref (w_adr E.2.1 12 0)), (1, .long (x1)), (3, .int (x3 + 1))] ⟨rfl, ⟨rfl, ⟨rfl, trivial⟩⟩⟩ rfl h
def zb_X13_nearest_p110 (E : zE) (L : Nat) (Q : kx_Rs → wS → Prop) (x1 : Int64) (x3 : Int32) (x4 : Int32) (x5 : Int32) (w : wS) : Prop := zL_X13_nearest_p53 E L Q x1 x3 x4 (x5 + 4) w
theorem zt_X13_nearest_p110 {E : zE} {L : Nat} {Q : kx_Rs → wS → Prop} {x1 : Int64} {x3 : Int32} {x4 : Int32} {x5 : Int32} {w : wS} (hL : 25 ≤ L) (h : zb_X13_nearest_p110 E L Q x1 x3 x4 x5 w) : kzE E L kt_M489 110 [(0, .ref (w_adr E.2.1 12 0)), (1, .long (x1)), (3, .int x3), (4, .int x4), (5, .int x5)] [] w Q := by
  unfold zb_X13_nearest_p110 at h
  refine kz_inc (M := kt_M489) [(0, .ref (w_adr E.2.1 12 0)), (1, .long (x1)), (3, .int x3), (4, .int x4)] kX13_nearest_c8.2.1 rfl (Nat.le_of_ble_eq_true rfl) ⟨⟨rfl, rfl, .inl rfl⟩, ⟨⟨rfl, rfl, .inl rfl⟩, ⟨⟨rfl, rfl, .inl rfl⟩, ⟨⟨rfl, rfl, .inr rfl⟩, trivial⟩⟩⟩⟩ rfl ?_
  refine kz_goto (M := kt_M489) kX13_nearest_c8.2.2.1 (t := 53) rfl ?_
  exact kz_weak [(0, .ref (w_adr E.2.1 12 0)), (1, .long (x1)), (3, .int x3), (4, .int x4), (5, .int (x5 + 4))] ⟨rfl, ⟨rfl, ⟨rfl, ⟨rfl, ⟨rfl, trivial⟩⟩⟩⟩⟩ rfl h
def zb_X13_nearest_p53 (E : zE) (L : Nat) (Q : kx_Rs → wS → Prop) (x1 : Int64) (x3 : Int32) (x4 : Int32) (x5 : Int32) (w : wS) : Prop := (kx_inb x4 (w_n w 12 0 147) = true ∧ (if ¬ w_a w 12 0 147 (x4).toNatClampNeg = 3 then zb_X13_nearest_p116 E L Q x1 x3 w else (kx_inb x4 (w_n w 12 0 157) = true ∧ (kx_inb x4 (w_n w 12 0 158) = true ∧ (if ((w_a w 12 0 157 (x4).toNatClampNeg) + (w_a w 12 0 158 (x4).toNatClampNeg)) ≤ x5 then zb_X13_nearest_p116 E L Q x1 x3 w else zw E (L - 21) kt_M410 [.ref (w_adr E.2.1 12 0), .int (x5 + 2)] w (wk1 (fun v2 w1 => wle w w1 → (if ¬ v2 = 4 then zb_X13_nearest_p110 E L Q x1 x3 x4 x5 w1 else zw E (L - 21) kt_M410 [.ref (w_adr E.2.1 12 0), .int (x5 + 3)] w1 (wk1 (fun v4 w3 => wle w1 w3 → zw E (L - 25) kt_M488 [.ref (w_adr E.2.1 12 0), .long (x1), .int v4] w3 (wkl (fun v6 w5 => wle w3 w5 → zb_X13_nearest_p110 E L Q v6 x3 x4 x5 w5) (fun e w => Q (.inr e) w))) (fun e w => Q (.inr e) w)))) (fun e w => Q (.inr e) w)))))))
theorem zt_X13_nearest_p53 {E : zE} {L : Nat} {Q : kx_Rs → wS → Prop} {x1 : Int64} {x3 : Int32} {x4 : Int32} {x5 : Int32} {w : wS} (hL : 25 ≤ L) (h : zb_X13_nearest_p53 E L Q x1 x3 x4 x5 w) : kzE E L kt_M489 53 [(0, .ref (w_adr E.2.1 12 0)), (1, .long (x1)), (3, .int x3), (4, .int x4), (5, .int x5)] [] w Q := by
  unfold zb_X13_nearest_p53 at h
  refine kz_aload_n (M := kt_M489) kX13_nearest_c4.1 rfl ?_
  refine kz_gfc (M := kt_M489) (x := 4219) (c := 12) (o := 0) kX13_nearest_c4.2.1 wf_X13_394 (.inl rfl) ?_
  refine kz_iload (M := kt_M489) kX13_nearest_c4.2.2.1 rfl ?_
  refine kz_iald (M := kt_M489) (c := 12) (o := 0) (k := 147) (a := (E.2.1 4219)) kX13_nearest_c4.2.2.2.1 ow_12_0_147 oa_12_0_147 ot_0 h (fun h => ?_)
  refine kz_ic (M := kt_M489) 3 kX13_nearest_c4.2.2.2.2.1 rfl ?_
  refine kz_icmp_ne (M := kt_M489) kX13_nearest_c4.2.2.2.2.2.1 (t := 116) rfl h (fun h => ?_) (fun h => ?_)
  · skip
    exact kz_weak [(0, .ref (w_adr E.2.1 12 0)), (1, .long (x1)), (3, .int x3)] ⟨rfl, ⟨rfl, ⟨rfl, trivial⟩⟩⟩ rfl (zt_X13_nearest_p116 hL  h)
  · skip
    refine kz_iload (M := kt_M489) kX13_nearest_c4.2.2.2.2.2.2.1 rfl ?_
    refine kz_aload_n (M := kt_M489) kX13_nearest_c4.2.2.2.2.2.2.2.1 rfl ?_
    refine kz_gfc (M := kt_M489) (x := 4229) (c := 12) (o := 0) kX13_nearest_c5.1 wf_X13_424 (.inl rfl) ?_
    refine kz_iload (M := kt_M489) kX13_nearest_c5.2.1 rfl ?_
    refine kz_iald (M := kt_M489) (c := 12) (o := 0) (k := 157) (a := (E.2.1 4229)) kX13_nearest_c5.2.2.1 ow_12_0_157 oa_12_0_157 ot_0 h (fun h => ?_)
    refine kz_aload_n (M := kt_M489) kX13_nearest_c5.2.2.2.1 rfl ?_
    refine kz_gfc (M := kt_M489) (x := 4230) (c := 12) (o := 0) kX13_nearest_c5.2.2.2.2.1 wf_X13_427 (.inl rfl) ?_
    refine kz_iload (M := kt_M489) kX13_nearest_c5.2.2.2.2.2.1 rfl ?_
    refine kz_iald (M := kt_M489) (c := 12) (o := 0) (k := 158) (a := (E.2.1 4230)) kX13_nearest_c5.2.2.2.2.2.2.1 ow_12_0_158 oa_12_0_158 ot_0 h (fun h => ?_)
    refine kz_iadd (M := kt_M489) kX13_nearest_c5.2.2.2.2.2.2.2.1 ?_
    refine kz_icmp_ge (M := kt_M489) kX13_nearest_c6.1 (t := 116) rfl h (fun h => ?_) (fun h => ?_)
    · skip
      exact kz_weak [(0, .ref (w_adr E.2.1 12 0)), (1, .long (x1)), (3, .int x3)] ⟨rfl, ⟨rfl, ⟨rfl, trivial⟩⟩⟩ rfl (zt_X13_nearest_p116 hL  h)
    · skip
      refine kz_aload_n (M := kt_M489) kX13_nearest_c6.2.1 rfl ?_
      refine kz_iload (M := kt_M489) kX13_nearest_c6.2.2.1 rfl ?_
      refine kz_ic (M := kt_M489) 2 kX13_nearest_c6.2.2.2.1 rfl ?_
      refine kz_iadd (M := kt_M489) kX13_nearest_c6.2.2.2.2.1 ?_
      refine kz_cv1 (M := kt_M489) (c := 12) (o := 0) (As := [.int (x5 + 2)]) (rest := []) kX13_nearest_c6.2.2.2.2.2.1 wl_X13_1177 wMv_410 rfl (.inl rfl) rfl (Nat.le_trans (Nat.le_of_ble_eq_true rfl) hL) (Nat.le_of_ble_eq_true rfl) (Nat.le_of_ble_eq_true rfl) h (fun v2 w1 hle h => ?_) (fun _ _ _ h => kzx_no rfl h)
      have h := h hle
      refine kz_ic (M := kt_M489) 4 kX13_nearest_c6.2.2.2.2.2.2.1 rfl ?_
      refine kz_icmp_ne (M := kt_M489) kX13_nearest_c6.2.2.2.2.2.2.2.1 (t := 110) rfl h (fun h => ?_) (fun h => ?_)
      · skip
        exact kz_weak [(0, .ref (w_adr E.2.1 12 0)), (1, .long (x1)), (3, .int x3), (4, .int x4), (5, .int x5)] ⟨rfl, ⟨rfl, ⟨rfl, ⟨rfl, ⟨rfl, trivial⟩⟩⟩⟩⟩ rfl (zt_X13_nearest_p110 hL  h)
      · skip
        refine kz_aload_n (M := kt_M489) kX13_nearest_c7.1 rfl ?_
        refine kz_lload_n (M := kt_M489) kX13_nearest_c7.2.1 rfl ?_
        refine kz_aload_n (M := kt_M489) kX13_nearest_c7.2.2.1 rfl ?_
        refine kz_iload (M := kt_M489) kX13_nearest_c7.2.2.2.1 rfl ?_
        refine kz_ic (M := kt_M489) 3 kX13_nearest_c7.2.2.2.2.1 rfl ?_
        refine kz_iadd (M := kt_M489) kX13_nearest_c7.2.2.2.2.2.1 ?_
        refine kz_cv1 (M := kt_M489) (c := 12) (o := 0) (As := [.int (x5 + 3)]) (rest := [.long (x1), .ref (w_adr E.2.1 12 0)]) kX13_nearest_c7.2.2.2.2.2.2.1 wl_X13_1177 wMv_410 rfl (.inl rfl) rfl (Nat.le_trans (Nat.le_of_ble_eq_true rfl) hL) (Nat.le_of_ble_eq_true rfl) (Nat.le_of_ble_eq_true rfl) h (fun v4 w3 hle h => ?_) (fun _ _ _ h => kzx_no rfl h)
        have h := h hle
        refine kz_cvl (M := kt_M489) (c := 12) (o := 0) (As := [.long (x1), .int v4]) (rest := []) kX13_nearest_c7.2.2.2.2.2.2.2.1 wl_X13_1479 wMv_488 rfl (.inl rfl) rfl (Nat.le_trans (Nat.le_of_ble_eq_true rfl) hL) (Nat.le_of_ble_eq_true rfl) (Nat.le_of_ble_eq_true rfl) h (fun v6 w5 hle h => ?_) (fun _ _ _ h => kzx_no rfl h)
        have h := h hle
        refine kz_stl_n (M := kt_M489) [(0, .ref (w_adr E.2.1 12 0)), (3, .int x3), (4, .int x4), (5, .int x5)] kX13_nearest_c8.1 (Nat.le_of_ble_eq_true rfl) ⟨⟨rfl, rfl, .inr rfl⟩, ⟨⟨rfl, rfl, .inl rfl⟩, ⟨⟨rfl, rfl, .inl rfl⟩, ⟨⟨rfl, rfl, .inl rfl⟩, trivial⟩⟩⟩⟩ rfl rfl ?_
        exact kz_weak [(0, .ref (w_adr E.2.1 12 0)), (1, .long (v6)), (3, .int x3), (4, .int x4), (5, .int x5)] ⟨rfl, ⟨rfl, ⟨rfl, ⟨rfl, ⟨rfl, trivial⟩⟩⟩⟩⟩ rfl (zt_X13_nearest_p110 hL  h)
def zb_X13_nearest_p44 (E : zE) (L : Nat) (Q : kx_Rs → wS → Prop) (x1 : Int64) (x3 : Int32) (x4 : Int32) (w : wS) : Prop := (kx_inb x4 (w_n w 12 0 157) = true ∧ zL_X13_nearest_p53 E L Q x1 x3 x4 (w_a w 12 0 157 (x4).toNatClampNeg) w)
theorem zt_X13_nearest_p44 {E : zE} {L : Nat} {Q : kx_Rs → wS → Prop} {x1 : Int64} {x3 : Int32} {x4 : Int32} {w : wS} (hL : 25 ≤ L) (h : zb_X13_nearest_p44 E L Q x1 x3 x4 w) : kzE E L kt_M489 44 [(0, .ref (w_adr E.2.1 12 0)), (1, .long (x1)), (3, .int x3), (4, .int x4)] [] w Q := by
  unfold zb_X13_nearest_p44 at h
  refine kz_aload_n (M := kt_M489) kX13_nearest_c3.2.2.2.1 rfl ?_
  refine kz_gfc (M := kt_M489) (x := 4229) (c := 12) (o := 0) kX13_nearest_c3.2.2.2.2.1 wf_X13_424 (.inl rfl) ?_
  refine kz_iload (M := kt_M489) kX13_nearest_c3.2.2.2.2.2.1 rfl ?_
  refine kz_iald (M := kt_M489) (c := 12) (o := 0) (k := 157) (a := (E.2.1 4229)) kX13_nearest_c3.2.2.2.2.2.2.1 ow_12_0_157 oa_12_0_157 ot_0 h (fun h => ?_)
  refine kz_sti (M := kt_M489) [(0, .ref (w_adr E.2.1 12 0)), (1, .long (x1)), (3, .int x3), (4, .int x4)] kX13_nearest_c3.2.2.2.2.2.2.2.1 (Nat.le_of_ble_eq_true rfl) ⟨⟨rfl, rfl, .inl rfl⟩, ⟨⟨rfl, rfl, .inl rfl⟩, ⟨⟨rfl, rfl, .inl rfl⟩, ⟨⟨rfl, rfl, .inr rfl⟩, trivial⟩⟩⟩⟩ rfl ?_
  exact kz_weak [(0, .ref (w_adr E.2.1 12 0)), (1, .long (x1)), (3, .int x3), (4, .int x4), (5, .int (w_a w 12 0 157 (x4).toNatClampNeg))] ⟨rfl, ⟨rfl, ⟨rfl, ⟨rfl, ⟨rfl, trivial⟩⟩⟩⟩⟩ rfl h
def zb_X13_nearest_p4 (E : zE) (L : Nat) (Q : kx_Rs → wS → Prop) (x1 : Int64) (x3 : Int32) (w : wS) : Prop := (if w_i w 12 0 143 ≤ x3 then Q (.inl (some (.long x1))) w else (kx_inb x3 (w_n w 12 0 144) = true ∧ (kx_inb (w_a w 12 0 144 (x3).toNatClampNeg) (w_n w 12 0 147) = true ∧ (if ¬ w_a w 12 0 147 (w_a w 12 0 144 (x3).toNatClampNeg).toNatClampNeg = 4 then zb_X13_nearest_p44 E L Q x1 x3 (w_a w 12 0 144 (x3).toNatClampNeg) w else (kx_inb (w_a w 12 0 144 (x3).toNatClampNeg) (w_n w 12 0 156) = true ∧ zw E (L - 25) kt_M488 [.ref (w_adr E.2.1 12 0), .long (x1), .int (w_a w 12 0 156 (w_a w 12 0 144 (x3).toNatClampNeg).toNatClampNeg)] w (wkl (fun v2 w1 => wle w w1 → zb_X13_nearest_p44 E L Q v2 x3 (w_a w 12 0 144 (x3).toNatClampNeg) w1) (fun e w => Q (.inr e) w)))))))
theorem zt_X13_nearest_p4 {E : zE} {L : Nat} {Q : kx_Rs → wS → Prop} {x1 : Int64} {x3 : Int32} {w : wS} (hL : 25 ≤ L) (h : zb_X13_nearest_p4 E L Q x1 x3 w) : kzE E L kt_M489 4 [(0, .ref (w_adr E.2.1 12 0)), (1, .long (x1)), (3, .int x3)] [] w Q := by
  unfold zb_X13_nearest_p4 at h
  refine kz_iload_n (M := kt_M489) kX13_nearest_c0.2.2.2.2.1 rfl ?_
  refine kz_aload_n (M := kt_M489) kX13_nearest_c0.2.2.2.2.2.1 rfl ?_
  refine kz_gfi (M := kt_M489) (c := 12) (o := 0) kX13_nearest_c0.2.2.2.2.2.2.1 wf_X13_1186 (.inl rfl) ?_
  refine kz_icmp_ge (M := kt_M489) kX13_nearest_c0.2.2.2.2.2.2.2.1 (t := 122) rfl h (fun h => ?_) (fun h => ?_)
  · skip
    refine kz_lload_n (M := kt_M489) kX13_nearest_c8.2.2.2.2.2.1 rfl ?_
    exact kz_lret (M := kt_M489) kX13_nearest_c8.2.2.2.2.2.2.1 rfl h
  · skip
    refine kz_aload_n (M := kt_M489) kX13_nearest_c1.1 rfl ?_
    refine kz_gfc (M := kt_M489) (x := 4216) (c := 12) (o := 0) kX13_nearest_c1.2.1 wf_X13_385 (.inl rfl) ?_
    refine kz_iload_n (M := kt_M489) kX13_nearest_c1.2.2.1 rfl ?_
    refine kz_iald (M := kt_M489) (c := 12) (o := 0) (k := 144) (a := (E.2.1 4216)) kX13_nearest_c1.2.2.2.1 ow_12_0_144 oa_12_0_144 ot_0 h (fun h => ?_)
    refine kz_sti (M := kt_M489) [(0, .ref (w_adr E.2.1 12 0)), (1, .long (x1)), (3, .int x3)] kX13_nearest_c1.2.2.2.2.1 (Nat.le_of_ble_eq_true rfl) ⟨⟨rfl, rfl, .inl rfl⟩, ⟨⟨rfl, rfl, .inl rfl⟩, ⟨⟨rfl, rfl, .inr rfl⟩, trivial⟩⟩⟩ rfl ?_
    refine kz_aload_n (M := kt_M489) kX13_nearest_c1.2.2.2.2.2.1 rfl ?_
    refine kz_gfc (M := kt_M489) (x := 4219) (c := 12) (o := 0) kX13_nearest_c1.2.2.2.2.2.2.1 wf_X13_394 (.inl rfl) ?_
    refine kz_iload (M := kt_M489) kX13_nearest_c1.2.2.2.2.2.2.2.1 rfl ?_
    refine kz_iald (M := kt_M489) (c := 12) (o := 0) (k := 147) (a := (E.2.1 4219)) kX13_nearest_c2.1 ow_12_0_147 oa_12_0_147 ot_0 h (fun h => ?_)
    refine kz_ic (M := kt_M489) 4 kX13_nearest_c2.2.1 rfl ?_
    refine kz_icmp_ne (M := kt_M489) kX13_nearest_c2.2.2.1 (t := 44) rfl h (fun h => ?_) (fun h => ?_)
    · skip
      exact kz_weak [(0, .ref (w_adr E.2.1 12 0)), (1, .long (x1)), (3, .int x3), (4, .int (w_a w 12 0 144 (x3).toNatClampNeg))] ⟨rfl, ⟨rfl, ⟨rfl, ⟨rfl, trivial⟩⟩⟩⟩ rfl (zt_X13_nearest_p44 hL  h)
    · skip
      refine kz_aload_n (M := kt_M489) kX13_nearest_c2.2.2.2.1 rfl ?_
      refine kz_lload_n (M := kt_M489) kX13_nearest_c2.2.2.2.2.1 rfl ?_
      refine kz_aload_n (M := kt_M489) kX13_nearest_c2.2.2.2.2.2.1 rfl ?_
      refine kz_gfc (M := kt_M489) (x := 4228) (c := 12) (o := 0) kX13_nearest_c2.2.2.2.2.2.2.1 wf_X13_421 (.inl rfl) ?_
      refine kz_iload (M := kt_M489) kX13_nearest_c2.2.2.2.2.2.2.2.1 rfl ?_
      refine kz_iald (M := kt_M489) (c := 12) (o := 0) (k := 156) (a := (E.2.1 4228)) kX13_nearest_c3.1 ow_12_0_156 oa_12_0_156 ot_0 h (fun h => ?_)
      refine kz_cvl (M := kt_M489) (c := 12) (o := 0) (As := [.long (x1), .int (w_a w 12 0 156 (w_a w 12 0 144 (x3).toNatClampNeg).toNatClampNeg)]) (rest := []) kX13_nearest_c3.2.1 wl_X13_1479 wMv_488 rfl (.inl rfl) rfl (Nat.le_trans (Nat.le_of_ble_eq_true rfl) hL) (Nat.le_of_ble_eq_true rfl) (Nat.le_of_ble_eq_true rfl) h (fun v2 w1 hle h => ?_) (fun _ _ _ h => kzx_no rfl h)
      have h := h hle
      refine kz_stl_n (M := kt_M489) [(0, .ref (w_adr E.2.1 12 0)), (3, .int x3), (4, .int (w_a w 12 0 144 (x3).toNatClampNeg))] kX13_nearest_c3.2.2.1 (Nat.le_of_ble_eq_true rfl) ⟨⟨rfl, rfl, .inr rfl⟩, ⟨⟨rfl, rfl, .inl rfl⟩, ⟨⟨rfl, rfl, .inl rfl⟩, trivial⟩⟩⟩ rfl rfl ?_
      exact kz_weak [(0, .ref (w_adr E.2.1 12 0)), (1, .long (v2)), (3, .int x3), (4, .int (w_a w 12 0 144 (x3).toNatClampNeg))] ⟨rfl, ⟨rfl, ⟨rfl, ⟨rfl, trivial⟩⟩⟩⟩ rfl (zt_X13_nearest_p44 hL  h)
def zb_X13_nearest_p0 (E : zE) (L : Nat) (Q : kx_Rs → wS → Prop) (w : wS) : Prop := zL_X13_nearest_p4 E L Q 0 0 w
theorem zt_X13_nearest_p0 {E : zE} {L : Nat} {Q : kx_Rs → wS → Prop} {w : wS} (hL : 25 ≤ L) (h : zb_X13_nearest_p0 E L Q  w) : kzE E L kt_M489 0 [(0, .ref (w_adr E.2.1 12 0))] [] w Q := by
  unfold zb_X13_nearest_p0 at h
  refine kz_lconst (M := kt_M489) kX13_nearest_c0.1 ?_
  refine kz_stl_n (M := kt_M489) [(0, .ref (w_adr E.2.1 12 0))] kX13_nearest_c0.2.1 (Nat.le_of_ble_eq_true rfl) ⟨⟨rfl, rfl, .inr rfl⟩, trivial⟩ rfl rfl ?_
  refine kz_ic (M := kt_M489) 0 kX13_nearest_c0.2.2.1 rfl ?_
  refine kz_sti_n (M := kt_M489) [(0, .ref (w_adr E.2.1 12 0)), (1, .long (0))] kX13_nearest_c0.2.2.2.1 (Nat.le_of_ble_eq_true rfl) ⟨⟨rfl, rfl, .inl rfl⟩, ⟨⟨rfl, rfl, .inl rfl⟩, trivial⟩⟩ rfl ?_
  exact kz_weak [(0, .ref (w_adr E.2.1 12 0)), (1, .long (0)), (3, .int 0)] ⟨rfl, ⟨rfl, ⟨rfl, trivial⟩⟩⟩ rfl h
def zb_X13_nearer_p34 (E : zE) (L : Nat) (Q : kx_Rs → wS → Prop) (y0 : Int64) (w : wS) : Prop := Q (.inl (some (.long y0))) w
theorem zt_X13_nearer_p34 {E : zE} {L : Nat} {Q : kx_Rs → wS → Prop} {y0 : Int64} {w : wS} (hL : 19 ≤ L) (h : zb_X13_nearer_p34 E L Q y0 w) : kzE E L kt_M488 34 [(0, .ref (w_adr E.2.1 12 0))] [.long (y0)] w Q := by
  unfold zb_X13_nearer_p34 at h
  exact kz_lret (M := kt_M488) kX13_nearer_c2.2.2.2.2.2.1 rfl h
def zb_X13_nearer_p28 (E : zE) (L : Nat) (Q : kx_Rs → wS → Prop) (x4 : Int64) (w : wS) : Prop := zb_X13_nearer_p34 E L Q x4 w
theorem zt_X13_nearer_p28 {E : zE} {L : Nat} {Q : kx_Rs → wS → Prop} {x4 : Int64} {w : wS} (hL : 19 ≤ L) (h : zb_X13_nearer_p28 E L Q x4 w) : kzE E L kt_M488 28 [(0, .ref (w_adr E.2.1 12 0)), (4, .long (x4))] [] w Q := by
  unfold zb_X13_nearer_p28 at h
  refine kz_lload (M := kt_M488) kX13_nearer_c2.2.2.1 rfl ?_
  refine kz_goto (M := kt_M488) kX13_nearer_c2.2.2.2.1 (t := 34) rfl ?_
  exact kz_weak [(0, .ref (w_adr E.2.1 12 0))] ⟨rfl, trivial⟩ rfl (zt_X13_nearer_p34 hL  h)
def zb_X13_nearer_p0 (E : zE) (L : Nat) (Q : kx_Rs → wS → Prop) (x1 : Int64) (x3 : Int32) (w : wS) : Prop := (if (lg_cmp x1 0) = 0 then zb_X13_nearer_p28 E L Q (((((x3 + 1) - (w_i w 12 0 128))).toInt64) &&& 4294967295) w else (if 0 ≤ (lg_cmp (((((x3 + 1) - (w_i w 12 0 128))).toInt64) &&& 4294967295) x1) then zb_X13_nearer_p34 E L Q x1 w else zb_X13_nearer_p28 E L Q (((((x3 + 1) - (w_i w 12 0 128))).toInt64) &&& 4294967295) w))
theorem zt_X13_nearer_p0 {E : zE} {L : Nat} {Q : kx_Rs → wS → Prop} {x1 : Int64} {x3 : Int32} {w : wS} (hL : 19 ≤ L) (h : zb_X13_nearer_p0 E L Q x1 x3 w) : kzE E L kt_M488 0 [(0, .ref (w_adr E.2.1 12 0)), (1, .long (x1)), (3, .int x3)] [] w Q := by
  unfold zb_X13_nearer_p0 at h
  refine kz_iload_n (M := kt_M488) kX13_nearer_c0.1 rfl ?_
  refine kz_ic (M := kt_M488) 1 kX13_nearer_c0.2.1 rfl ?_
  refine kz_iadd (M := kt_M488) kX13_nearer_c0.2.2.1 ?_
  refine kz_aload_n (M := kt_M488) kX13_nearer_c0.2.2.2.1 rfl ?_
  refine kz_gfi (M := kt_M488) (c := 12) (o := 0) kX13_nearer_c0.2.2.2.2.1 wf_X13_1388 (.inl rfl) ?_
  refine kz_isub (M := kt_M488) kX13_nearer_c0.2.2.2.2.2.1 ?_
  refine kz_i2l (M := kt_M488) kX13_nearer_c0.2.2.2.2.2.2.1 ?_
  refine kz_ldc2 (M := kt_M488) (x := 4294967295) kX13_nearer_c0.2.2.2.2.2.2.2.1 (zc_X13_1483) ?_
  refine kz_land (M := kt_M488) kX13_nearer_c1.1 ?_
  refine kz_stl (M := kt_M488) [(0, .ref (w_adr E.2.1 12 0)), (1, .long (x1))] kX13_nearer_c1.2.1 (Nat.le_of_ble_eq_true rfl) ⟨⟨rfl, rfl, .inl rfl⟩, ⟨⟨rfl, rfl, .inl rfl⟩, trivial⟩⟩ rfl rfl ?_
  refine kz_lload_n (M := kt_M488) kX13_nearer_c1.2.2.1 rfl ?_
  refine kz_lconst (M := kt_M488) kX13_nearer_c1.2.2.2.1 ?_
  refine kz_lcmp (M := kt_M488) kX13_nearer_c1.2.2.2.2.1 ?_
  refine kz_if_eq (M := kt_M488) kX13_nearer_c1.2.2.2.2.2.1 (t := 28) rfl h (fun h => ?_) (fun h => ?_)
  · skip
    exact kz_weak [(0, .ref (w_adr E.2.1 12 0)), (4, .long ((((((x3 + 1) - (w_i w 12 0 128))).toInt64) &&& 4294967295)))] ⟨rfl, ⟨rfl, trivial⟩⟩ rfl (zt_X13_nearer_p28 hL  h)
  · skip
    refine kz_lload (M := kt_M488) kX13_nearer_c1.2.2.2.2.2.2.1 rfl ?_
    refine kz_lload_n (M := kt_M488) kX13_nearer_c1.2.2.2.2.2.2.2.1 rfl ?_
    refine kz_lcmp (M := kt_M488) kX13_nearer_c2.1 ?_
    refine kz_if_ge (M := kt_M488) kX13_nearer_c2.2.1 (t := 33) rfl h (fun h => ?_) (fun h => ?_)
    · skip
      refine kz_lload_n (M := kt_M488) kX13_nearer_c2.2.2.2.2.1 rfl ?_
      exact kz_weak [(0, .ref (w_adr E.2.1 12 0))] ⟨rfl, trivial⟩ rfl (zt_X13_nearer_p34 hL  h)
    · skip
      exact kz_weak [(0, .ref (w_adr E.2.1 12 0)), (4, .long ((((((x3 + 1) - (w_i w 12 0 128))).toInt64) &&& 4294967295)))] ⟨rfl, ⟨rfl, trivial⟩⟩ rfl (zt_X13_nearer_p28 hL  h)
def zL_X13_wake_p62 (E : zE) (L : Nat) (Q : kx_Rs → wS → Prop) (x1 : Int32) (x2 : Int32) (x3 : Int32) (w : wS) : Prop := kzE E L kt_M599 62 [(0, .ref (w_adr E.2.1 12 0)), (1, .int x1), (2, .int x2), (3, .int x3)] [] w Q
def zL_X13_wake_p2 (E : zE) (L : Nat) (Q : kx_Rs → wS → Prop) (x1 : Int32) (w : wS) : Prop := kzE E L kt_M599 2 [(0, .ref (w_adr E.2.1 12 0)), (1, .int x1)] [] w Q
def zb_X13_wake_p128 (E : zE) (L : Nat) (Q : kx_Rs → wS → Prop) (x1 : Int32) (w : wS) : Prop := zL_X13_wake_p2 E L Q (x1 + 1) w
theorem zt_X13_wake_p128 {E : zE} {L : Nat} {Q : kx_Rs → wS → Prop} {x1 : Int32} {w : wS} (hL : 21 ≤ L) (h : zb_X13_wake_p128 E L Q x1 w) : kzE E L kt_M599 128 [(0, .ref (w_adr E.2.1 12 0)), (1, .int x1)] [] w Q := by
  unfold zb_X13_wake_p128 at h
  refine kz_inc (M := kt_M599) [(0, .ref (w_adr E.2.1 12 0))] kX13_wake_c10.1 rfl (Nat.le_of_ble_eq_true rfl) ⟨⟨rfl, rfl, .inr rfl⟩, trivial⟩ rfl ?_
  refine kz_goto (M := kt_M599) kX13_wake_c10.2.1 (t := 2) rfl ?_
  exact kz_weak [(0, .ref (w_adr E.2.1 12 0)), (1, .int (x1 + 1))] ⟨rfl, ⟨rfl, trivial⟩⟩ rfl h
def zb_X13_wake_p122 (E : zE) (L : Nat) (Q : kx_Rs → wS → Prop) (x1 : Int32) (x2 : Int32) (x3 : Int32) (w : wS) : Prop := zL_X13_wake_p62 E L Q x1 x2 (x3 + 4) w
theorem zt_X13_wake_p122 {E : zE} {L : Nat} {Q : kx_Rs → wS → Prop} {x1 : Int32} {x2 : Int32} {x3 : Int32} {w : wS} (hL : 21 ≤ L) (h : zb_X13_wake_p122 E L Q x1 x2 x3 w) : kzE E L kt_M599 122 [(0, .ref (w_adr E.2.1 12 0)), (1, .int x1), (2, .int x2), (3, .int x3)] [] w Q := by
  unfold zb_X13_wake_p122 at h
  refine kz_inc (M := kt_M599) [(0, .ref (w_adr E.2.1 12 0)), (1, .int x1), (2, .int x2)] kX13_wake_c9.2.2.2.2.2.2.1 rfl (Nat.le_of_ble_eq_true rfl) ⟨⟨rfl, rfl, .inl rfl⟩, ⟨⟨rfl, rfl, .inl rfl⟩, ⟨⟨rfl, rfl, .inr rfl⟩, trivial⟩⟩⟩ rfl ?_
  refine kz_goto (M := kt_M599) kX13_wake_c9.2.2.2.2.2.2.2.1 (t := 62) rfl ?_
  exact kz_weak [(0, .ref (w_adr E.2.1 12 0)), (1, .int x1), (2, .int x2), (3, .int (x3 + 4))] ⟨rfl, ⟨rfl, ⟨rfl, ⟨rfl, trivial⟩⟩⟩⟩ rfl h
def zb_X13_wake_p62 (E : zE) (L : Nat) (Q : kx_Rs → wS → Prop) (x1 : Int32) (x2 : Int32) (x3 : Int32) (w : wS) : Prop := (kx_inb x2 (w_n w 12 0 147) = true ∧ (if ¬ w_a w 12 0 147 (x2).toNatClampNeg = 3 then zb_X13_wake_p128 E L Q x1 w else (kx_inb x2 (w_n w 12 0 157) = true ∧ (kx_inb x2 (w_n w 12 0 158) = true ∧ (if ((w_a w 12 0 157 (x2).toNatClampNeg) + (w_a w 12 0 158 (x2).toNatClampNeg)) ≤ x3 then zb_X13_wake_p128 E L Q x1 w else zw E (L - 21) kt_M410 [.ref (w_adr E.2.1 12 0), .int (x3 + 2)] w (wk1 (fun v2 w1 => wle w w1 → (if ¬ v2 = 4 then zb_X13_wake_p122 E L Q x1 x2 x3 w1 else zw E (L - 21) kt_M410 [.ref (w_adr E.2.1 12 0), .int (x3 + 3)] w1 (wk1 (fun v4 w3 => wle w1 w3 → (if ((w_i w1 12 0 128) - v4) ≤ 0 then zb_X13_wake_p122 E L Q x1 x2 x3 w3 else (kx_inb x2 (w_n w3 12 0 147) = true ∧ zb_X13_wake_p122 E L Q x1 x2 x3 (ws_a w3 12 0 147 (x2).toNatClampNeg 0)))) (fun e w => Q (.inr e) w)))) (fun e w => Q (.inr e) w)))))))
theorem zt_X13_wake_p62 {E : zE} {L : Nat} {Q : kx_Rs → wS → Prop} {x1 : Int32} {x2 : Int32} {x3 : Int32} {w : wS} (hL : 21 ≤ L) (h : zb_X13_wake_p62 E L Q x1 x2 x3 w) : kzE E L kt_M599 62 [(0, .ref (w_adr E.2.1 12 0)), (1, .int x1), (2, .int x2), (3, .int x3)] [] w Q := by
  unfold zb_X13_wake_p62 at h
  refine kz_aload_n (M := kt_M599) kX13_wake_c5.1 rfl ?_
  refine kz_gfc (M := kt_M599) (x := 4219) (c := 12) (o := 0) kX13_wake_c5.2.1 wf_X13_394 (.inl rfl) ?_
  refine kz_iload_n (M := kt_M599) kX13_wake_c5.2.2.1 rfl ?_
  refine kz_iald (M := kt_M599) (c := 12) (o := 0) (k := 147) (a := (E.2.1 4219)) kX13_wake_c5.2.2.2.1 ow_12_0_147 oa_12_0_147 ot_0 h (fun h => ?_)
  refine kz_ic (M := kt_M599) 3 kX13_wake_c5.2.2.2.2.1 rfl ?_
  refine kz_icmp_ne (M := kt_M599) kX13_wake_c5.2.2.2.2.2.1 (t := 128) rfl h (fun h => ?_) (fun h => ?_)
  · skip
    exact kz_weak [(0, .ref (w_adr E.2.1 12 0)), (1, .int x1)] ⟨rfl, ⟨rfl, trivial⟩⟩ rfl (zt_X13_wake_p128 hL  h)
  · skip
    refine kz_iload_n (M := kt_M599) kX13_wake_c5.2.2.2.2.2.2.1 rfl ?_
    refine kz_aload_n (M := kt_M599) kX13_wake_c5.2.2.2.2.2.2.2.1 rfl ?_
    refine kz_gfc (M := kt_M599) (x := 4229) (c := 12) (o := 0) kX13_wake_c6.1 wf_X13_424 (.inl rfl) ?_
    refine kz_iload_n (M := kt_M599) kX13_wake_c6.2.1 rfl ?_
    refine kz_iald (M := kt_M599) (c := 12) (o := 0) (k := 157) (a := (E.2.1 4229)) kX13_wake_c6.2.2.1 ow_12_0_157 oa_12_0_157 ot_0 h (fun h => ?_)
    refine kz_aload_n (M := kt_M599) kX13_wake_c6.2.2.2.1 rfl ?_
    refine kz_gfc (M := kt_M599) (x := 4230) (c := 12) (o := 0) kX13_wake_c6.2.2.2.2.1 wf_X13_427 (.inl rfl) ?_
    refine kz_iload_n (M := kt_M599) kX13_wake_c6.2.2.2.2.2.1 rfl ?_
    refine kz_iald (M := kt_M599) (c := 12) (o := 0) (k := 158) (a := (E.2.1 4230)) kX13_wake_c6.2.2.2.2.2.2.1 ow_12_0_158 oa_12_0_158 ot_0 h (fun h => ?_)
    refine kz_iadd (M := kt_M599) kX13_wake_c6.2.2.2.2.2.2.2.1 ?_
    refine kz_icmp_ge (M := kt_M599) kX13_wake_c7.1 (t := 128) rfl h (fun h => ?_) (fun h => ?_)
    · skip
      exact kz_weak [(0, .ref (w_adr E.2.1 12 0)), (1, .int x1)] ⟨rfl, ⟨rfl, trivial⟩⟩ rfl (zt_X13_wake_p128 hL  h)
    · skip
      refine kz_aload_n (M := kt_M599) kX13_wake_c7.2.1 rfl ?_
      refine kz_iload_n (M := kt_M599) kX13_wake_c7.2.2.1 rfl ?_
      refine kz_ic (M := kt_M599) 2 kX13_wake_c7.2.2.2.1 rfl ?_
      refine kz_iadd (M := kt_M599) kX13_wake_c7.2.2.2.2.1 ?_
      refine kz_cv1 (M := kt_M599) (c := 12) (o := 0) (As := [.int (x3 + 2)]) (rest := []) kX13_wake_c7.2.2.2.2.2.1 wl_X13_1177 wMv_410 rfl (.inl rfl) rfl (Nat.le_trans (Nat.le_of_ble_eq_true rfl) hL) (Nat.le_of_ble_eq_true rfl) (Nat.le_of_ble_eq_true rfl) h (fun v2 w1 hle h => ?_) (fun _ _ _ h => kzx_no rfl h)
      have h := h hle
      refine kz_ic (M := kt_M599) 4 kX13_wake_c7.2.2.2.2.2.2.1 rfl ?_
      refine kz_icmp_ne (M := kt_M599) kX13_wake_c7.2.2.2.2.2.2.2.1 (t := 122) rfl h (fun h => ?_) (fun h => ?_)
      · skip
        exact kz_weak [(0, .ref (w_adr E.2.1 12 0)), (1, .int x1), (2, .int x2), (3, .int x3)] ⟨rfl, ⟨rfl, ⟨rfl, ⟨rfl, trivial⟩⟩⟩⟩ rfl (zt_X13_wake_p122 hL  h)
      · skip
        refine kz_aload_n (M := kt_M599) kX13_wake_c8.1 rfl ?_
        refine kz_gfi (M := kt_M599) (c := 12) (o := 0) kX13_wake_c8.2.1 wf_X13_1388 (.inl rfl) ?_
        refine kz_aload_n (M := kt_M599) kX13_wake_c8.2.2.1 rfl ?_
        refine kz_iload_n (M := kt_M599) kX13_wake_c8.2.2.2.1 rfl ?_
        refine kz_ic (M := kt_M599) 3 kX13_wake_c8.2.2.2.2.1 rfl ?_
        refine kz_iadd (M := kt_M599) kX13_wake_c8.2.2.2.2.2.1 ?_
        refine kz_cv1 (M := kt_M599) (c := 12) (o := 0) (As := [.int (x3 + 3)]) (rest := [.int (w_i w1 12 0 128)]) kX13_wake_c8.2.2.2.2.2.2.1 wl_X13_1177 wMv_410 rfl (.inl rfl) rfl (Nat.le_trans (Nat.le_of_ble_eq_true rfl) hL) (Nat.le_of_ble_eq_true rfl) (Nat.le_of_ble_eq_true rfl) h (fun v4 w3 hle h => ?_) (fun _ _ _ h => kzx_no rfl h)
        have h := h hle
        refine kz_isub (M := kt_M599) kX13_wake_c8.2.2.2.2.2.2.2.1 ?_
        refine kz_if_le (M := kt_M599) kX13_wake_c9.1 (t := 122) rfl h (fun h => ?_) (fun h => ?_)
        · skip
          exact kz_weak [(0, .ref (w_adr E.2.1 12 0)), (1, .int x1), (2, .int x2), (3, .int x3)] ⟨rfl, ⟨rfl, ⟨rfl, ⟨rfl, trivial⟩⟩⟩⟩ rfl (zt_X13_wake_p122 hL  h)
        · skip
          refine kz_aload_n (M := kt_M599) kX13_wake_c9.2.1 rfl ?_
          refine kz_gfc (M := kt_M599) (x := 4219) (c := 12) (o := 0) kX13_wake_c9.2.2.1 wf_X13_394 (.inl rfl) ?_
          refine kz_iload_n (M := kt_M599) kX13_wake_c9.2.2.2.1 rfl ?_
          refine kz_ic (M := kt_M599) 0 kX13_wake_c9.2.2.2.2.1 rfl ?_
          refine kz_iast (M := kt_M599) (c := 12) (o := 0) (k := 147) (a := (E.2.1 4219)) kX13_wake_c9.2.2.2.2.2.1 ow_12_0_147 oa_12_0_147 ot_0 h (fun h => ?_)
          exact kz_weak [(0, .ref (w_adr E.2.1 12 0)), (1, .int x1), (2, .int x2), (3, .int x3)] ⟨rfl, ⟨rfl, ⟨rfl, ⟨rfl, trivial⟩⟩⟩⟩ rfl (zt_X13_wake_p122 hL  h)
def zb_X13_wake_p55 (E : zE) (L : Nat) (Q : kx_Rs → wS → Prop) (x1 : Int32) (x2 : Int32) (w : wS) : Prop := (kx_inb x2 (w_n w 12 0 157) = true ∧ zL_X13_wake_p62 E L Q x1 x2 (w_a w 12 0 157 (x2).toNatClampNeg) w)
theorem zt_X13_wake_p55 {E : zE} {L : Nat} {Q : kx_Rs → wS → Prop} {x1 : Int32} {x2 : Int32} {w : wS} (hL : 21 ≤ L) (h : zb_X13_wake_p55 E L Q x1 x2 w) : kzE E L kt_M599 55 [(0, .ref (w_adr E.2.1 12 0)), (1, .int x1), (2, .int x2)] [] w Q := by
  unfold zb_X13_wake_p55 at h
  refine kz_aload_n (M := kt_M599) kX13_wake_c4.2.2.2.1 rfl ?_
  refine kz_gfc (M := kt_M599) (x := 4229) (c := 12) (o := 0) kX13_wake_c4.2.2.2.2.1 wf_X13_424 (.inl rfl) ?_
  refine kz_iload_n (M := kt_M599) kX13_wake_c4.2.2.2.2.2.1 rfl ?_
  refine kz_iald (M := kt_M599) (c := 12) (o := 0) (k := 157) (a := (E.2.1 4229)) kX13_wake_c4.2.2.2.2.2.2.1 ow_12_0_157 oa_12_0_157 ot_0 h (fun h => ?_)
  refine kz_sti_n (M := kt_M599) [(0, .ref (w_adr E.2.1 12 0)), (1, .int x1), (2, .int x2)] kX13_wake_c4.2.2.2.2.2.2.2.1 (Nat.le_of_ble_eq_true rfl) ⟨⟨rfl, rfl, .inl rfl⟩, ⟨⟨rfl, rfl, .inl rfl⟩, ⟨⟨rfl, rfl, .inr rfl⟩, trivial⟩⟩⟩ rfl ?_
  exact kz_weak [(0, .ref (w_adr E.2.1 12 0)), (1, .int x1), (2, .int x2), (3, .int (w_a w 12 0 157 (x2).toNatClampNeg))] ⟨rfl, ⟨rfl, ⟨rfl, ⟨rfl, trivial⟩⟩⟩⟩ rfl h
def zb_X13_wake_p2 (E : zE) (L : Nat) (Q : kx_Rs → wS → Prop) (x1 : Int32) (w : wS) : Prop := (if w_i w 12 0 143 ≤ x1 then Q (.inl none) w else (kx_inb x1 (w_n w 12 0 144) = true ∧ (kx_inb (w_a w 12 0 144 (x1).toNatClampNeg) (w_n w 12 0 147) = true ∧ (if ¬ w_a w 12 0 147 (w_a w 12 0 144 (x1).toNatClampNeg).toNatClampNeg = 4 then zb_X13_wake_p55 E L Q x1 (w_a w 12 0 144 (x1).toNatClampNeg) w else (kx_inb (w_a w 12 0 144 (x1).toNatClampNeg) (w_n w 12 0 156) = true ∧ (if ((w_i w 12 0 128) - (w_a w 12 0 156 (w_a w 12 0 144 (x1).toNatClampNeg).toNatClampNeg)) ≤ 0 then zb_X13_wake_p55 E L Q x1 (w_a w 12 0 144 (x1).toNatClampNeg) w else (kx_inb (w_a w 12 0 144 (x1).toNatClampNeg) (w_n w 12 0 147) = true ∧ (kx_inb (w_a w 12 0 144 (x1).toNatClampNeg) (w_n w 12 0 159) = true ∧ zb_X13_wake_p55 E L Q x1 (w_a w 12 0 144 (x1).toNatClampNeg) (ws_a (ws_a w 12 0 147 (w_a w 12 0 144 (x1).toNatClampNeg).toNatClampNeg 0) 12 0 159 (w_a w 12 0 144 (x1).toNatClampNeg).toNatClampNeg (vp_nar .boolean 1))))))))))
theorem zt_X13_wake_p2 {E : zE} {L : Nat} {Q : kx_Rs → wS → Prop} {x1 : Int32} {w : wS} (hL : 21 ≤ L) (h : zb_X13_wake_p2 E L Q x1 w) : kzE E L kt_M599 2 [(0, .ref (w_adr E.2.1 12 0)), (1, .int x1)] [] w Q := by
  unfold zb_X13_wake_p2 at h
  refine kz_iload_n (M := kt_M599) kX13_wake_c0.2.2.1 rfl ?_
  refine kz_aload_n (M := kt_M599) kX13_wake_c0.2.2.2.1 rfl ?_
  refine kz_gfi (M := kt_M599) (c := 12) (o := 0) kX13_wake_c0.2.2.2.2.1 wf_X13_1186 (.inl rfl) ?_
  refine kz_icmp_ge (M := kt_M599) kX13_wake_c0.2.2.2.2.2.1 (t := 134) rfl h (fun h => ?_) (fun h => ?_)
  · skip
    exact kz_ret (M := kt_M599) kX13_wake_c10.2.2.1 rfl h
  · skip
    refine kz_aload_n (M := kt_M599) kX13_wake_c0.2.2.2.2.2.2.1 rfl ?_
    refine kz_gfc (M := kt_M599) (x := 4216) (c := 12) (o := 0) kX13_wake_c0.2.2.2.2.2.2.2.1 wf_X13_385 (.inl rfl) ?_
    refine kz_iload_n (M := kt_M599) kX13_wake_c1.1 rfl ?_
    refine kz_iald (M := kt_M599) (c := 12) (o := 0) (k := 144) (a := (E.2.1 4216)) kX13_wake_c1.2.1 ow_12_0_144 oa_12_0_144 ot_0 h (fun h => ?_)
    refine kz_sti_n (M := kt_M599) [(0, .ref (w_adr E.2.1 12 0)), (1, .int x1)] kX13_wake_c1.2.2.1 (Nat.le_of_ble_eq_true rfl) ⟨⟨rfl, rfl, .inl rfl⟩, ⟨⟨rfl, rfl, .inr rfl⟩, trivial⟩⟩ rfl ?_
    refine kz_aload_n (M := kt_M599) kX13_wake_c1.2.2.2.1 rfl ?_
    refine kz_gfc (M := kt_M599) (x := 4219) (c := 12) (o := 0) kX13_wake_c1.2.2.2.2.1 wf_X13_394 (.inl rfl) ?_
    refine kz_iload_n (M := kt_M599) kX13_wake_c1.2.2.2.2.2.1 rfl ?_
    refine kz_iald (M := kt_M599) (c := 12) (o := 0) (k := 147) (a := (E.2.1 4219)) kX13_wake_c1.2.2.2.2.2.2.1 ow_12_0_147 oa_12_0_147 ot_0 h (fun h => ?_)
    refine kz_ic (M := kt_M599) 4 kX13_wake_c1.2.2.2.2.2.2.2.1 rfl ?_
    refine kz_icmp_ne (M := kt_M599) kX13_wake_c2.1 (t := 55) rfl h (fun h => ?_) (fun h => ?_)
    · skip
      exact kz_weak [(0, .ref (w_adr E.2.1 12 0)), (1, .int x1), (2, .int (w_a w 12 0 144 (x1).toNatClampNeg))] ⟨rfl, ⟨rfl, ⟨rfl, trivial⟩⟩⟩ rfl (zt_X13_wake_p55 hL  h)
    · skip
      refine kz_aload_n (M := kt_M599) kX13_wake_c2.2.1 rfl ?_
      refine kz_gfi (M := kt_M599) (c := 12) (o := 0) kX13_wake_c2.2.2.1 wf_X13_1388 (.inl rfl) ?_
      refine kz_aload_n (M := kt_M599) kX13_wake_c2.2.2.2.1 rfl ?_
      refine kz_gfc (M := kt_M599) (x := 4228) (c := 12) (o := 0) kX13_wake_c2.2.2.2.2.1 wf_X13_421 (.inl rfl) ?_
      refine kz_iload_n (M := kt_M599) kX13_wake_c2.2.2.2.2.2.1 rfl ?_
      refine kz_iald (M := kt_M599) (c := 12) (o := 0) (k := 156) (a := (E.2.1 4228)) kX13_wake_c2.2.2.2.2.2.2.1 ow_12_0_156 oa_12_0_156 ot_0 h (fun h => ?_)
      refine kz_isub (M := kt_M599) kX13_wake_c2.2.2.2.2.2.2.2.1 ?_
      refine kz_if_le (M := kt_M599) kX13_wake_c3.1 (t := 55) rfl h (fun h => ?_) (fun h => ?_)
      · skip
        exact kz_weak [(0, .ref (w_adr E.2.1 12 0)), (1, .int x1), (2, .int (w_a w 12 0 144 (x1).toNatClampNeg))] ⟨rfl, ⟨rfl, ⟨rfl, trivial⟩⟩⟩ rfl (zt_X13_wake_p55 hL  h)
      · skip
        refine kz_aload_n (M := kt_M599) kX13_wake_c3.2.1 rfl ?_
        refine kz_gfc (M := kt_M599) (x := 4219) (c := 12) (o := 0) kX13_wake_c3.2.2.1 wf_X13_394 (.inl rfl) ?_
        refine kz_iload_n (M := kt_M599) kX13_wake_c3.2.2.2.1 rfl ?_
        refine kz_ic (M := kt_M599) 0 kX13_wake_c3.2.2.2.2.1 rfl ?_
        refine kz_iast (M := kt_M599) (c := 12) (o := 0) (k := 147) (a := (E.2.1 4219)) kX13_wake_c3.2.2.2.2.2.1 ow_12_0_147 oa_12_0_147 ot_0 h (fun h => ?_)
        refine kz_aload_n (M := kt_M599) kX13_wake_c3.2.2.2.2.2.2.1 rfl ?_
        refine kz_gfc (M := kt_M599) (x := 4231) (c := 12) (o := 0) kX13_wake_c3.2.2.2.2.2.2.2.1 wf_X13_430 (.inl rfl) ?_
        refine kz_iload_n (M := kt_M599) kX13_wake_c4.1 rfl ?_
        refine kz_ic (M := kt_M599) 1 kX13_wake_c4.2.1 rfl ?_
        refine kz_zastR (M := kt_M599) (n := w_n w 12 0 159) (c := 12) (o := 0) (k := 159) (a := (E.2.1 4231)) kX13_wake_c4.2.2.1 ow_12_0_159 oa_12_0_159 ot_2 rd_n_a h (fun h => ?_)
        exact kz_weak [(0, .ref (w_adr E.2.1 12 0)), (1, .int x1), (2, .int (w_a w 12 0 144 (x1).toNatClampNeg))] ⟨rfl, ⟨rfl, ⟨rfl, trivial⟩⟩⟩ rfl (zt_X13_wake_p55 hL  h)
def zb_X13_wake_p0 (E : zE) (L : Nat) (Q : kx_Rs → wS → Prop) (w : wS) : Prop := zL_X13_wake_p2 E L Q 0 w
theorem zt_X13_wake_p0 {E : zE} {L : Nat} {Q : kx_Rs → wS → Prop} {w : wS} (hL : 21 ≤ L) (h : zb_X13_wake_p0 E L Q  w) : kzE E L kt_M599 0 [(0, .ref (w_adr E.2.1 12 0))] [] w Q := by
  unfold zb_X13_wake_p0 at h
  refine kz_ic (M := kt_M599) 0 kX13_wake_c0.1 rfl ?_
  refine kz_sti_n (M := kt_M599) [(0, .ref (w_adr E.2.1 12 0))] kX13_wake_c0.2.1 (Nat.le_of_ble_eq_true rfl) ⟨⟨rfl, rfl, .inr rfl⟩, trivial⟩ rfl ?_
  exact kz_weak [(0, .ref (w_adr E.2.1 12 0)), (1, .int 0)] ⟨rfl, ⟨rfl, trivial⟩⟩ rfl h
