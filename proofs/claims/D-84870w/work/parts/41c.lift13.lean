/-! ===== methods over the typed state (printed by tools/gen_lift.py) ===== -/
set_option maxRecDepth 100000
def zL_X13_typeAssign_p143 (E : zE) (L : Nat) (Q : kx_Rs → wS → Prop) (x3 : Int32) (w : wS) : Prop := kzE E L kt_M569 143 [(0, .ref (w_adr E.2.1 12 0)), (3, .int x3)] [] w Q
def zL_X13_typeAssign_p122 (E : zE) (L : Nat) (Q : kx_Rs → wS → Prop) (x2 : Int32) (x3 : Int32) (w : wS) : Prop := kzE E L kt_M569 122 [(0, .ref (w_adr E.2.1 12 0)), (2, .int x2), (3, .int x3)] [] w Q
def zL_X13_typeAssign_p14 (E : zE) (L : Nat) (Q : kx_Rs → wS → Prop) (x1 : Int32) (x2 : Int32) (x3 : Int32) (w : wS) : Prop := kzE E L kt_M569 14 [(0, .ref (w_adr E.2.1 12 0)), (1, .int x1), (2, .int x2), (3, .int x3)] [] w Q
def zb_X13_typeAssign_p143 (E : zE) (L : Nat) (Q : kx_Rs → wS → Prop) (x3 : Int32) (w : wS) : Prop := (if x3 < 0 then Q (.inl none) w else zw E (L - 23) kt_M576 [.ref (w_adr E.2.1 12 0), .int x3] w (wk1 (fun v2 w1 => wle w w1 → (kx_inb x3 (w_n w1 12 0 32) = true ∧ zL_X13_typeAssign_p143 E L Q (w_a w1 12 0 32 (x3).toNatClampNeg) w1)) (fun e w => Q (.inr e) w)))
theorem zt_X13_typeAssign_p143 {E : zE} {L : Nat} {Q : kx_Rs → wS → Prop} {x3 : Int32} {w : wS} (hL : 23 ≤ L) (h : zb_X13_typeAssign_p143 E L Q x3 w) : kzE E L kt_M569 143 [(0, .ref (w_adr E.2.1 12 0)), (3, .int x3)] [] w Q := by
  unfold zb_X13_typeAssign_p143 at h
  refine kz_iload_n (M := kt_M569) kX13_typeAssign_c10.1 rfl ?_
  refine kz_if_lt (M := kt_M569) kX13_typeAssign_c10.2.1 (t := 164) rfl h (fun h => ?_) (fun h => ?_)
  · skip
    exact kz_ret (M := kt_M569) kX13_typeAssign_c11.2.2.2.2.1 rfl h
  · skip
    refine kz_aload_n (M := kt_M569) kX13_typeAssign_c10.2.2.1 rfl ?_
    refine kz_iload_n (M := kt_M569) kX13_typeAssign_c10.2.2.2.1 rfl ?_
    refine kz_cv1 (M := kt_M569) (c := 12) (o := 0) (As := [.int x3]) (rest := []) kX13_typeAssign_c10.2.2.2.2.1 wl_X13_853 wMv_576 rfl (.inl rfl) rfl (Nat.le_trans (Nat.le_of_ble_eq_true rfl) hL) (Nat.le_of_ble_eq_true rfl) (Nat.le_of_ble_eq_true rfl) h (fun v2 w1 hle h => ?_) (fun _ _ _ h => kzx_no rfl h)
    have h := h hle
    refine kz_sti (M := kt_M569) [(0, .ref (w_adr E.2.1 12 0)), (3, .int x3)] kX13_typeAssign_c10.2.2.2.2.2.1 (Nat.le_of_ble_eq_true rfl) ⟨⟨rfl, rfl, .inl rfl⟩, ⟨⟨rfl, rfl, .inr rfl⟩, trivial⟩⟩ rfl ?_
    refine kz_aload_n (M := kt_M569) kX13_typeAssign_c10.2.2.2.2.2.2.1 rfl ?_
    refine kz_gfc (M := kt_M569) (x := 4104) (c := 12) (o := 0) kX13_typeAssign_c10.2.2.2.2.2.2.2.1 wf_X13_205 (.inl rfl) ?_
    refine kz_iload_n (M := kt_M569) kX13_typeAssign_c11.1 rfl ?_
    refine kz_iald (M := kt_M569) (c := 12) (o := 0) (k := 32) (a := (E.2.1 4104)) kX13_typeAssign_c11.2.1 ow_12_0_32 oa_12_0_32 ot_0 h (fun h => ?_)
    refine kz_sti_n (M := kt_M569) [(0, .ref (w_adr E.2.1 12 0))] kX13_typeAssign_c11.2.2.1 (Nat.le_of_ble_eq_true rfl) ⟨⟨rfl, rfl, .inl rfl⟩, trivial⟩ rfl ?_
    refine kz_goto (M := kt_M569) kX13_typeAssign_c11.2.2.2.1 (t := 143) rfl ?_
    exact kz_weak [(0, .ref (w_adr E.2.1 12 0)), (3, .int (w_a w1 12 0 32 (x3).toNatClampNeg))] ⟨rfl, ⟨rfl, trivial⟩⟩ rfl h
def zb_X13_typeAssign_p122 (E : zE) (L : Nat) (Q : kx_Rs → wS → Prop) (x2 : Int32) (x3 : Int32) (w : wS) : Prop := (if x2 < 0 then zL_X13_typeAssign_p143 E L Q x3 w else zw E (L - 22) kt_M577 [.ref (w_adr E.2.1 12 0), .int x2] w (wk1 (fun v2 w1 => wle w w1 → (kx_inb x2 (w_n w1 12 0 32) = true ∧ zL_X13_typeAssign_p122 E L Q (w_a w1 12 0 32 (x2).toNatClampNeg) x3 w1)) (fun e w => Q (.inr e) w)))
theorem zt_X13_typeAssign_p122 {E : zE} {L : Nat} {Q : kx_Rs → wS → Prop} {x2 : Int32} {x3 : Int32} {w : wS} (hL : 23 ≤ L) (h : zb_X13_typeAssign_p122 E L Q x2 x3 w) : kzE E L kt_M569 122 [(0, .ref (w_adr E.2.1 12 0)), (2, .int x2), (3, .int x3)] [] w Q := by
  unfold zb_X13_typeAssign_p122 at h
  refine kz_iload_n (M := kt_M569) kX13_typeAssign_c8.2.2.2.2.1 rfl ?_
  refine kz_if_lt (M := kt_M569) kX13_typeAssign_c8.2.2.2.2.2.1 (t := 143) rfl h (fun h => ?_) (fun h => ?_)
  · skip
    exact kz_weak [(0, .ref (w_adr E.2.1 12 0)), (3, .int x3)] ⟨rfl, ⟨rfl, trivial⟩⟩ rfl h
  · skip
    refine kz_aload_n (M := kt_M569) kX13_typeAssign_c8.2.2.2.2.2.2.1 rfl ?_
    refine kz_iload_n (M := kt_M569) kX13_typeAssign_c8.2.2.2.2.2.2.2.1 rfl ?_
    refine kz_cv1 (M := kt_M569) (c := 12) (o := 0) (As := [.int x2]) (rest := []) kX13_typeAssign_c9.1 wl_X13_886 wMv_577 rfl (.inl rfl) rfl (Nat.le_trans (Nat.le_of_ble_eq_true rfl) hL) (Nat.le_of_ble_eq_true rfl) (Nat.le_of_ble_eq_true rfl) h (fun v2 w1 hle h => ?_) (fun _ _ _ h => kzx_no rfl h)
    have h := h hle
    refine kz_sti (M := kt_M569) [(0, .ref (w_adr E.2.1 12 0)), (2, .int x2), (3, .int x3)] kX13_typeAssign_c9.2.1 (Nat.le_of_ble_eq_true rfl) ⟨⟨rfl, rfl, .inl rfl⟩, ⟨⟨rfl, rfl, .inl rfl⟩, ⟨⟨rfl, rfl, .inr rfl⟩, trivial⟩⟩⟩ rfl ?_
    refine kz_aload_n (M := kt_M569) kX13_typeAssign_c9.2.2.1 rfl ?_
    refine kz_gfc (M := kt_M569) (x := 4104) (c := 12) (o := 0) kX13_typeAssign_c9.2.2.2.1 wf_X13_205 (.inl rfl) ?_
    refine kz_iload_n (M := kt_M569) kX13_typeAssign_c9.2.2.2.2.1 rfl ?_
    refine kz_iald (M := kt_M569) (c := 12) (o := 0) (k := 32) (a := (E.2.1 4104)) kX13_typeAssign_c9.2.2.2.2.2.1 ow_12_0_32 oa_12_0_32 ot_0 h (fun h => ?_)
    refine kz_sti_n (M := kt_M569) [(0, .ref (w_adr E.2.1 12 0)), (3, .int x3)] kX13_typeAssign_c9.2.2.2.2.2.2.1 (Nat.le_of_ble_eq_true rfl) ⟨⟨rfl, rfl, .inl rfl⟩, ⟨⟨rfl, rfl, .inl rfl⟩, trivial⟩⟩ rfl ?_
    refine kz_goto (M := kt_M569) kX13_typeAssign_c9.2.2.2.2.2.2.2.1 (t := 122) rfl ?_
    exact kz_weak [(0, .ref (w_adr E.2.1 12 0)), (2, .int (w_a w1 12 0 32 (x2).toNatClampNeg)), (3, .int x3)] ⟨rfl, ⟨rfl, ⟨rfl, trivial⟩⟩⟩ rfl h
def zb_X13_typeAssign_p110 (E : zE) (L : Nat) (Q : kx_Rs → wS → Prop) (x1 : Int32) (x2 : Int32) (x3 : Int32) (w : wS) : Prop := (kx_inb x1 (w_n w 12 0 27) = true ∧ zw E (L - 22) kt_M560 [.ref (w_adr E.2.1 12 0), .int 8, .int (w_a w 12 0 27 (x1).toNatClampNeg)] w (wk0 (fun w1 => wle w w1 → zL_X13_typeAssign_p122 E L Q x2 x3 w1) (fun e w => Q (.inr e) w)))
theorem zt_X13_typeAssign_p110 {E : zE} {L : Nat} {Q : kx_Rs → wS → Prop} {x1 : Int32} {x2 : Int32} {x3 : Int32} {w : wS} (hL : 23 ≤ L) (h : zb_X13_typeAssign_p110 E L Q x1 x2 x3 w) : kzE E L kt_M569 110 [(0, .ref (w_adr E.2.1 12 0)), (1, .int x1), (2, .int x2), (3, .int x3)] [] w Q := by
  unfold zb_X13_typeAssign_p110 at h
  refine kz_aload_n (M := kt_M569) kX13_typeAssign_c7.2.2.2.2.2.1 rfl ?_
  refine kz_bi (M := kt_M569) 8 kX13_typeAssign_c7.2.2.2.2.2.2.1 rfl ?_
  refine kz_aload_n (M := kt_M569) kX13_typeAssign_c7.2.2.2.2.2.2.2.1 rfl ?_
  refine kz_gfc (M := kt_M569) (x := 4099) (c := 12) (o := 0) kX13_typeAssign_c8.1 wf_X13_190 (.inl rfl) ?_
  refine kz_iload_n (M := kt_M569) kX13_typeAssign_c8.2.1 rfl ?_
  refine kz_iald (M := kt_M569) (c := 12) (o := 0) (k := 27) (a := (E.2.1 4099)) kX13_typeAssign_c8.2.2.1 ow_12_0_27 oa_12_0_27 ot_0 h (fun h => ?_)
  refine kz_cv0 (M := kt_M569) (c := 12) (o := 0) (As := [.int 8, .int (w_a w 12 0 27 (x1).toNatClampNeg)]) (rest := []) kX13_typeAssign_c8.2.2.2.1 wl_X13_734 wMv_560 rfl (.inl rfl) rfl (Nat.le_trans (Nat.le_of_ble_eq_true rfl) hL) (Nat.le_of_ble_eq_true rfl) (Nat.le_of_ble_eq_true rfl) h (fun w1 hle h => ?_) (fun _ _ _ h => kzx_no rfl h)
  have h := h hle
  exact kz_weak [(0, .ref (w_adr E.2.1 12 0)), (2, .int x2), (3, .int x3)] ⟨rfl, ⟨rfl, ⟨rfl, trivial⟩⟩⟩ rfl h
def zb_X13_typeAssign_p102 (E : zE) (L : Nat) (Q : kx_Rs → wS → Prop) (x1 : Int32) (x2 : Int32) (x3 : Int32) (w : wS) : Prop := (if 0 ≤ x2 then zb_X13_typeAssign_p110 E L Q x1 x2 x3 w else (if x3 < 0 then zL_X13_typeAssign_p122 E L Q x2 x3 w else zb_X13_typeAssign_p110 E L Q x1 x2 x3 w))
theorem zt_X13_typeAssign_p102 {E : zE} {L : Nat} {Q : kx_Rs → wS → Prop} {x1 : Int32} {x2 : Int32} {x3 : Int32} {w : wS} (hL : 23 ≤ L) (h : zb_X13_typeAssign_p102 E L Q x1 x2 x3 w) : kzE E L kt_M569 102 [(0, .ref (w_adr E.2.1 12 0)), (1, .int x1), (2, .int x2), (3, .int x3)] [] w Q := by
  unfold zb_X13_typeAssign_p102 at h
  refine kz_iload_n (M := kt_M569) kX13_typeAssign_c7.2.1 rfl ?_
  refine kz_if_ge (M := kt_M569) kX13_typeAssign_c7.2.2.1 (t := 110) rfl h (fun h => ?_) (fun h => ?_)
  · skip
    exact kz_weak [(0, .ref (w_adr E.2.1 12 0)), (1, .int x1), (2, .int x2), (3, .int x3)] ⟨rfl, ⟨rfl, ⟨rfl, ⟨rfl, trivial⟩⟩⟩⟩ rfl (zt_X13_typeAssign_p110 hL  h)
  · skip
    refine kz_iload_n (M := kt_M569) kX13_typeAssign_c7.2.2.2.1 rfl ?_
    refine kz_if_lt (M := kt_M569) kX13_typeAssign_c7.2.2.2.2.1 (t := 122) rfl h (fun h => ?_) (fun h => ?_)
    · skip
      exact kz_weak [(0, .ref (w_adr E.2.1 12 0)), (2, .int x2), (3, .int x3)] ⟨rfl, ⟨rfl, ⟨rfl, trivial⟩⟩⟩ rfl h
    · skip
      exact kz_weak [(0, .ref (w_adr E.2.1 12 0)), (1, .int x1), (2, .int x2), (3, .int x3)] ⟨rfl, ⟨rfl, ⟨rfl, ⟨rfl, trivial⟩⟩⟩⟩ rfl (zt_X13_typeAssign_p110 hL  h)
def zb_X13_typeAssign_p85 (E : zE) (L : Nat) (Q : kx_Rs → wS → Prop) (x1 : Int32) (x2 : Int32) (x3 : Int32) (w : wS) : Prop := (kx_inb x2 (w_n w 12 0 32) = true ∧ (kx_inb x3 (w_n w 12 0 32) = true ∧ zL_X13_typeAssign_p14 E L Q x1 (w_a w 12 0 32 (x2).toNatClampNeg) (w_a w 12 0 32 (x3).toNatClampNeg) w))
theorem zt_X13_typeAssign_p85 {E : zE} {L : Nat} {Q : kx_Rs → wS → Prop} {x1 : Int32} {x2 : Int32} {x3 : Int32} {w : wS} (hL : 23 ≤ L) (h : zb_X13_typeAssign_p85 E L Q x1 x2 x3 w) : kzE E L kt_M569 85 [(0, .ref (w_adr E.2.1 12 0)), (1, .int x1), (2, .int x2), (3, .int x3)] [] w Q := by
  unfold zb_X13_typeAssign_p85 at h
  refine kz_aload_n (M := kt_M569) kX13_typeAssign_c5.2.2.2.2.2.2.1 rfl ?_
  refine kz_gfc (M := kt_M569) (x := 4104) (c := 12) (o := 0) kX13_typeAssign_c5.2.2.2.2.2.2.2.1 wf_X13_205 (.inl rfl) ?_
  refine kz_iload_n (M := kt_M569) kX13_typeAssign_c6.1 rfl ?_
  refine kz_iald (M := kt_M569) (c := 12) (o := 0) (k := 32) (a := (E.2.1 4104)) kX13_typeAssign_c6.2.1 ow_12_0_32 oa_12_0_32 ot_0 h (fun h => ?_)
  refine kz_sti_n (M := kt_M569) [(0, .ref (w_adr E.2.1 12 0)), (1, .int x1), (3, .int x3)] kX13_typeAssign_c6.2.2.1 (Nat.le_of_ble_eq_true rfl) ⟨⟨rfl, rfl, .inl rfl⟩, ⟨⟨rfl, rfl, .inr rfl⟩, ⟨⟨rfl, rfl, .inl rfl⟩, trivial⟩⟩⟩ rfl ?_
  refine kz_aload_n (M := kt_M569) kX13_typeAssign_c6.2.2.2.1 rfl ?_
  refine kz_gfc (M := kt_M569) (x := 4104) (c := 12) (o := 0) kX13_typeAssign_c6.2.2.2.2.1 wf_X13_205 (.inl rfl) ?_
  refine kz_iload_n (M := kt_M569) kX13_typeAssign_c6.2.2.2.2.2.1 rfl ?_
  refine kz_iald (M := kt_M569) (c := 12) (o := 0) (k := 32) (a := (E.2.1 4104)) kX13_typeAssign_c6.2.2.2.2.2.2.1 ow_12_0_32 oa_12_0_32 ot_0 h (fun h => ?_)
  refine kz_sti_n (M := kt_M569) [(0, .ref (w_adr E.2.1 12 0)), (1, .int x1), (2, .int (w_a w 12 0 32 (x2).toNatClampNeg))] kX13_typeAssign_c6.2.2.2.2.2.2.2.1 (Nat.le_of_ble_eq_true rfl) ⟨⟨rfl, rfl, .inl rfl⟩, ⟨⟨rfl, rfl, .inl rfl⟩, ⟨⟨rfl, rfl, .inr rfl⟩, trivial⟩⟩⟩ rfl ?_
  refine kz_goto (M := kt_M569) kX13_typeAssign_c7.1 (t := 14) rfl ?_
  exact kz_weak [(0, .ref (w_adr E.2.1 12 0)), (1, .int x1), (2, .int (w_a w 12 0 32 (x2).toNatClampNeg)), (3, .int (w_a w 12 0 32 (x3).toNatClampNeg))] ⟨rfl, ⟨rfl, ⟨rfl, ⟨rfl, trivial⟩⟩⟩⟩ rfl h
def zb_X13_typeAssign_p73 (E : zE) (L : Nat) (Q : kx_Rs → wS → Prop) (x1 : Int32) (x2 : Int32) (x3 : Int32) (w : wS) : Prop := (kx_inb x1 (w_n w 12 0 27) = true ∧ zw E (L - 22) kt_M560 [.ref (w_adr E.2.1 12 0), .int 7, .int (w_a w 12 0 27 (x1).toNatClampNeg)] w (wk0 (fun w1 => wle w w1 → zb_X13_typeAssign_p85 E L Q x1 x2 x3 w1) (fun e w => Q (.inr e) w)))
theorem zt_X13_typeAssign_p73 {E : zE} {L : Nat} {Q : kx_Rs → wS → Prop} {x1 : Int32} {x2 : Int32} {x3 : Int32} {w : wS} (hL : 23 ≤ L) (h : zb_X13_typeAssign_p73 E L Q x1 x2 x3 w) : kzE E L kt_M569 73 [(0, .ref (w_adr E.2.1 12 0)), (1, .int x1), (2, .int x2), (3, .int x3)] [] w Q := by
  unfold zb_X13_typeAssign_p73 at h
  refine kz_aload_n (M := kt_M569) kX13_typeAssign_c4.2.2.2.2.2.2.2.1 rfl ?_
  refine kz_bi (M := kt_M569) 7 kX13_typeAssign_c5.1 rfl ?_
  refine kz_aload_n (M := kt_M569) kX13_typeAssign_c5.2.1 rfl ?_
  refine kz_gfc (M := kt_M569) (x := 4099) (c := 12) (o := 0) kX13_typeAssign_c5.2.2.1 wf_X13_190 (.inl rfl) ?_
  refine kz_iload_n (M := kt_M569) kX13_typeAssign_c5.2.2.2.1 rfl ?_
  refine kz_iald (M := kt_M569) (c := 12) (o := 0) (k := 27) (a := (E.2.1 4099)) kX13_typeAssign_c5.2.2.2.2.1 ow_12_0_27 oa_12_0_27 ot_0 h (fun h => ?_)
  refine kz_cv0 (M := kt_M569) (c := 12) (o := 0) (As := [.int 7, .int (w_a w 12 0 27 (x1).toNatClampNeg)]) (rest := []) kX13_typeAssign_c5.2.2.2.2.2.1 wl_X13_734 wMv_560 rfl (.inl rfl) rfl (Nat.le_trans (Nat.le_of_ble_eq_true rfl) hL) (Nat.le_of_ble_eq_true rfl) (Nat.le_of_ble_eq_true rfl) h (fun w1 hle h => ?_) (fun _ _ _ h => kzx_no rfl h)
  have h := h hle
  exact kz_weak [(0, .ref (w_adr E.2.1 12 0)), (1, .int x1), (2, .int x2), (3, .int x3)] ⟨rfl, ⟨rfl, ⟨rfl, ⟨rfl, trivial⟩⟩⟩⟩ rfl (zt_X13_typeAssign_p85 hL  h)
def zb_X13_typeAssign_p14 (E : zE) (L : Nat) (Q : kx_Rs → wS → Prop) (x1 : Int32) (x2 : Int32) (x3 : Int32) (w : wS) : Prop := (if x2 < 0 then zb_X13_typeAssign_p102 E L Q x1 x2 x3 w else (if x3 < 0 then zb_X13_typeAssign_p102 E L Q x1 x2 x3 w else zw E (L - 22) kt_M577 [.ref (w_adr E.2.1 12 0), .int x2] w (wk1 (fun v2 w1 => wle w w1 → zw E (L - 23) kt_M576 [.ref (w_adr E.2.1 12 0), .int x3] w1 (wk1 (fun v4 w3 => wle w1 w3 → (if v2 = (-1) then zb_X13_typeAssign_p85 E L Q x1 x2 x3 w3 else (if v4 = (-1) then zb_X13_typeAssign_p85 E L Q x1 x2 x3 w3 else (if ¬ v2 = v4 then zb_X13_typeAssign_p73 E L Q x1 x2 x3 w3 else zw E (L - 21) kt_M528 [.int (w_i w3 12 0 73), .int (w_i w1 12 0 73)] w3 (wk1 (fun v6 w5 => wle w3 w5 → (if ¬ v6 = 0 then zb_X13_typeAssign_p85 E L Q x1 x2 x3 w5 else zb_X13_typeAssign_p73 E L Q x1 x2 x3 w5)) (fun e w => Q (.inr e) w)))))) (fun e w => Q (.inr e) w))) (fun e w => Q (.inr e) w))))
theorem zt_X13_typeAssign_p14 {E : zE} {L : Nat} {Q : kx_Rs → wS → Prop} {x1 : Int32} {x2 : Int32} {x3 : Int32} {w : wS} (hL : 23 ≤ L) (h : zb_X13_typeAssign_p14 E L Q x1 x2 x3 w) : kzE E L kt_M569 14 [(0, .ref (w_adr E.2.1 12 0)), (1, .int x1), (2, .int x2), (3, .int x3)] [] w Q := by
  unfold zb_X13_typeAssign_p14 at h
  refine kz_iload_n (M := kt_M569) kX13_typeAssign_c1.2.2.1 rfl ?_
  refine kz_if_lt (M := kt_M569) kX13_typeAssign_c1.2.2.2.1 (t := 102) rfl h (fun h => ?_) (fun h => ?_)
  · skip
    exact kz_weak [(0, .ref (w_adr E.2.1 12 0)), (1, .int x1), (2, .int x2), (3, .int x3)] ⟨rfl, ⟨rfl, ⟨rfl, ⟨rfl, trivial⟩⟩⟩⟩ rfl (zt_X13_typeAssign_p102 hL  h)
  · skip
    refine kz_iload_n (M := kt_M569) kX13_typeAssign_c1.2.2.2.2.1 rfl ?_
    refine kz_if_lt (M := kt_M569) kX13_typeAssign_c1.2.2.2.2.2.1 (t := 102) rfl h (fun h => ?_) (fun h => ?_)
    · skip
      exact kz_weak [(0, .ref (w_adr E.2.1 12 0)), (1, .int x1), (2, .int x2), (3, .int x3)] ⟨rfl, ⟨rfl, ⟨rfl, ⟨rfl, trivial⟩⟩⟩⟩ rfl (zt_X13_typeAssign_p102 hL  h)
    · skip
      refine kz_aload_n (M := kt_M569) kX13_typeAssign_c1.2.2.2.2.2.2.1 rfl ?_
      refine kz_iload_n (M := kt_M569) kX13_typeAssign_c1.2.2.2.2.2.2.2.1 rfl ?_
      refine kz_cv1 (M := kt_M569) (c := 12) (o := 0) (As := [.int x2]) (rest := []) kX13_typeAssign_c2.1 wl_X13_886 wMv_577 rfl (.inl rfl) rfl (Nat.le_trans (Nat.le_of_ble_eq_true rfl) hL) (Nat.le_of_ble_eq_true rfl) (Nat.le_of_ble_eq_true rfl) h (fun v2 w1 hle h => ?_) (fun _ _ _ h => kzx_no rfl h)
      have h := h hle
      refine kz_sti (M := kt_M569) [(0, .ref (w_adr E.2.1 12 0)), (1, .int x1), (2, .int x2), (3, .int x3)] kX13_typeAssign_c2.2.1 (Nat.le_of_ble_eq_true rfl) ⟨⟨rfl, rfl, .inl rfl⟩, ⟨⟨rfl, rfl, .inl rfl⟩, ⟨⟨rfl, rfl, .inl rfl⟩, ⟨⟨rfl, rfl, .inr rfl⟩, trivial⟩⟩⟩⟩ rfl ?_
      refine kz_aload_n (M := kt_M569) kX13_typeAssign_c2.2.2.1 rfl ?_
      refine kz_gfi (M := kt_M569) (c := 12) (o := 0) kX13_typeAssign_c2.2.2.2.1 wf_X13_859 (.inl rfl) ?_
      refine kz_sti (M := kt_M569) [(0, .ref (w_adr E.2.1 12 0)), (1, .int x1), (2, .int x2), (3, .int x3), (4, .int v2)] kX13_typeAssign_c2.2.2.2.2.1 (Nat.le_of_ble_eq_true rfl) ⟨⟨rfl, rfl, .inl rfl⟩, ⟨⟨rfl, rfl, .inl rfl⟩, ⟨⟨rfl, rfl, .inl rfl⟩, ⟨⟨rfl, rfl, .inl rfl⟩, ⟨⟨rfl, rfl, .inr rfl⟩, trivial⟩⟩⟩⟩⟩ rfl ?_
      refine kz_aload_n (M := kt_M569) kX13_typeAssign_c2.2.2.2.2.2.1 rfl ?_
      refine kz_iload_n (M := kt_M569) kX13_typeAssign_c2.2.2.2.2.2.2.1 rfl ?_
      refine kz_cv1 (M := kt_M569) (c := 12) (o := 0) (As := [.int x3]) (rest := []) kX13_typeAssign_c2.2.2.2.2.2.2.2.1 wl_X13_853 wMv_576 rfl (.inl rfl) rfl (Nat.le_trans (Nat.le_of_ble_eq_true rfl) hL) (Nat.le_of_ble_eq_true rfl) (Nat.le_of_ble_eq_true rfl) h (fun v4 w3 hle h => ?_) (fun _ _ _ h => kzx_no rfl h)
      have h := h hle
      refine kz_sti (M := kt_M569) [(0, .ref (w_adr E.2.1 12 0)), (1, .int x1), (2, .int x2), (3, .int x3), (4, .int v2), (5, .int (w_i w1 12 0 73))] kX13_typeAssign_c3.1 (Nat.le_of_ble_eq_true rfl) ⟨⟨rfl, rfl, .inl rfl⟩, ⟨⟨rfl, rfl, .inl rfl⟩, ⟨⟨rfl, rfl, .inl rfl⟩, ⟨⟨rfl, rfl, .inl rfl⟩, ⟨⟨rfl, rfl, .inl rfl⟩, ⟨⟨rfl, rfl, .inr rfl⟩, trivial⟩⟩⟩⟩⟩⟩ rfl ?_
      refine kz_iload (M := kt_M569) kX13_typeAssign_c3.2.1 rfl ?_
      refine kz_ic (M := kt_M569) (-1) kX13_typeAssign_c3.2.2.1 rfl ?_
      refine kz_icmp_eq (M := kt_M569) kX13_typeAssign_c3.2.2.2.1 (t := 85) rfl h (fun h => ?_) (fun h => ?_)
      · skip
        exact kz_weak [(0, .ref (w_adr E.2.1 12 0)), (1, .int x1), (2, .int x2), (3, .int x3)] ⟨rfl, ⟨rfl, ⟨rfl, ⟨rfl, trivial⟩⟩⟩⟩ rfl (zt_X13_typeAssign_p85 hL  h)
      · skip
        refine kz_iload (M := kt_M569) kX13_typeAssign_c3.2.2.2.2.1 rfl ?_
        refine kz_ic (M := kt_M569) (-1) kX13_typeAssign_c3.2.2.2.2.2.1 rfl ?_
        refine kz_icmp_eq (M := kt_M569) kX13_typeAssign_c3.2.2.2.2.2.2.1 (t := 85) rfl h (fun h => ?_) (fun h => ?_)
        · skip
          exact kz_weak [(0, .ref (w_adr E.2.1 12 0)), (1, .int x1), (2, .int x2), (3, .int x3)] ⟨rfl, ⟨rfl, ⟨rfl, ⟨rfl, trivial⟩⟩⟩⟩ rfl (zt_X13_typeAssign_p85 hL  h)
        · skip
          refine kz_iload (M := kt_M569) kX13_typeAssign_c3.2.2.2.2.2.2.2.1 rfl ?_
          refine kz_iload (M := kt_M569) kX13_typeAssign_c4.1 rfl ?_
          refine kz_icmp_ne (M := kt_M569) kX13_typeAssign_c4.2.1 (t := 73) rfl h (fun h => ?_) (fun h => ?_)
          · skip
            exact kz_weak [(0, .ref (w_adr E.2.1 12 0)), (1, .int x1), (2, .int x2), (3, .int x3)] ⟨rfl, ⟨rfl, ⟨rfl, ⟨rfl, trivial⟩⟩⟩⟩ rfl (zt_X13_typeAssign_p73 hL  h)
          · skip
            refine kz_aload_n (M := kt_M569) kX13_typeAssign_c4.2.2.1 rfl ?_
            refine kz_gfi (M := kt_M569) (c := 12) (o := 0) kX13_typeAssign_c4.2.2.2.1 wf_X13_859 (.inl rfl) ?_
            refine kz_iload (M := kt_M569) kX13_typeAssign_c4.2.2.2.2.1 rfl ?_
            refine kz_cs1 (M := kt_M569) (As := [.int (w_i w3 12 0 73), .int (w_i w1 12 0 73)]) (rest := []) kX13_typeAssign_c4.2.2.2.2.2.1 wl_X13_898 wMs_528 rfl (Nat.le_trans (Nat.le_of_ble_eq_true rfl) hL) (Nat.le_of_ble_eq_true rfl) (Nat.le_of_ble_eq_true rfl) h (fun v6 w5 hle h => ?_) (fun _ _ _ h => kzx_no rfl h)
            have h := h hle
            refine kz_if_ne (M := kt_M569) kX13_typeAssign_c4.2.2.2.2.2.2.1 (t := 85) rfl h (fun h => ?_) (fun h => ?_)
            · skip
              exact kz_weak [(0, .ref (w_adr E.2.1 12 0)), (1, .int x1), (2, .int x2), (3, .int x3)] ⟨rfl, ⟨rfl, ⟨rfl, ⟨rfl, trivial⟩⟩⟩⟩ rfl (zt_X13_typeAssign_p85 hL  h)
            · skip
              exact kz_weak [(0, .ref (w_adr E.2.1 12 0)), (1, .int x1), (2, .int x2), (3, .int x3)] ⟨rfl, ⟨rfl, ⟨rfl, ⟨rfl, trivial⟩⟩⟩⟩ rfl (zt_X13_typeAssign_p73 hL  h)
def zb_X13_typeAssign_p0 (E : zE) (L : Nat) (Q : kx_Rs → wS → Prop) (x1 : Int32) (w : wS) : Prop := (kx_inb x1 (w_n w 12 0 28) = true ∧ (kx_inb x1 (w_n w 12 0 29) = true ∧ zL_X13_typeAssign_p14 E L Q x1 (w_a w 12 0 28 (x1).toNatClampNeg) (w_a w 12 0 29 (x1).toNatClampNeg) w))
theorem zt_X13_typeAssign_p0 {E : zE} {L : Nat} {Q : kx_Rs → wS → Prop} {x1 : Int32} {w : wS} (hL : 23 ≤ L) (h : zb_X13_typeAssign_p0 E L Q x1 w) : kzE E L kt_M569 0 [(0, .ref (w_adr E.2.1 12 0)), (1, .int x1)] [] w Q := by
  unfold zb_X13_typeAssign_p0 at h
  refine kz_aload_n (M := kt_M569) kX13_typeAssign_c0.1 rfl ?_
  refine kz_gfc (M := kt_M569) (x := 4100) (c := 12) (o := 0) kX13_typeAssign_c0.2.1 wf_X13_193 (.inl rfl) ?_
  refine kz_iload_n (M := kt_M569) kX13_typeAssign_c0.2.2.1 rfl ?_
  refine kz_iald (M := kt_M569) (c := 12) (o := 0) (k := 28) (a := (E.2.1 4100)) kX13_typeAssign_c0.2.2.2.1 ow_12_0_28 oa_12_0_28 ot_0 h (fun h => ?_)
  refine kz_sti_n (M := kt_M569) [(0, .ref (w_adr E.2.1 12 0)), (1, .int x1)] kX13_typeAssign_c0.2.2.2.2.1 (Nat.le_of_ble_eq_true rfl) ⟨⟨rfl, rfl, .inl rfl⟩, ⟨⟨rfl, rfl, .inr rfl⟩, trivial⟩⟩ rfl ?_
  refine kz_aload_n (M := kt_M569) kX13_typeAssign_c0.2.2.2.2.2.1 rfl ?_
  refine kz_gfc (M := kt_M569) (x := 4101) (c := 12) (o := 0) kX13_typeAssign_c0.2.2.2.2.2.2.1 wf_X13_196 (.inl rfl) ?_
  refine kz_iload_n (M := kt_M569) kX13_typeAssign_c0.2.2.2.2.2.2.2.1 rfl ?_
  refine kz_iald (M := kt_M569) (c := 12) (o := 0) (k := 29) (a := (E.2.1 4101)) kX13_typeAssign_c1.1 ow_12_0_29 oa_12_0_29 ot_0 h (fun h => ?_)
  refine kz_sti_n (M := kt_M569) [(0, .ref (w_adr E.2.1 12 0)), (1, .int x1), (2, .int (w_a w 12 0 28 (x1).toNatClampNeg))] kX13_typeAssign_c1.2.1 (Nat.le_of_ble_eq_true rfl) ⟨⟨rfl, rfl, .inl rfl⟩, ⟨⟨rfl, rfl, .inl rfl⟩, ⟨⟨rfl, rfl, .inr rfl⟩, trivial⟩⟩⟩ rfl ?_
  exact kz_weak [(0, .ref (w_adr E.2.1 12 0)), (1, .int x1), (2, .int (w_a w 12 0 28 (x1).toNatClampNeg)), (3, .int (w_a w 12 0 29 (x1).toNatClampNeg))] ⟨rfl, ⟨rfl, ⟨rfl, ⟨rfl, trivial⟩⟩⟩⟩ rfl h
def zb_X13_sameMany_p43 (E : zE) (L : Nat) (Q : kx_Rs → wS → Prop) (y0 : Int32) (w : wS) : Prop := ((y0 = 0 ∨ y0 = 1) ∧ Q (.inl (some (.int y0))) w)
theorem zt_X13_sameMany_p43 {E : zE} {L : Nat} {Q : kx_Rs → wS → Prop} {y0 : Int32} {w : wS} (hL : 19 ≤ L) (h : zb_X13_sameMany_p43 E L Q y0 w) : kzE E L kt_M528 43 [] [.int y0] w Q := by
  unfold zb_X13_sameMany_p43 at h
  exact kz_iretz (M := kt_M528) kX13_sameMany_c3.2.1 rfl h.1 h.2
def zb_X13_sameMany_p38 (E : zE) (L : Nat) (Q : kx_Rs → wS → Prop) (w : wS) : Prop := zb_X13_sameMany_p43 E L Q 1 w
theorem zt_X13_sameMany_p38 {E : zE} {L : Nat} {Q : kx_Rs → wS → Prop} {w : wS} (hL : 19 ≤ L) (h : zb_X13_sameMany_p38 E L Q  w) : kzE E L kt_M528 38 [] [] w Q := by
  unfold zb_X13_sameMany_p38 at h
  refine kz_ic (M := kt_M528) 1 kX13_sameMany_c2.2.2.2.2.2.2.1 rfl ?_
  refine kz_goto (M := kt_M528) kX13_sameMany_c2.2.2.2.2.2.2.2.1 (t := 43) rfl ?_
  exact kz_weak [] trivial rfl (zt_X13_sameMany_p43 hL  h)
def zb_X13_sameMany_p20 (E : zE) (L : Nat) (Q : kx_Rs → wS → Prop) (y0 : Int32) (w : wS) : Prop := ((y0 = 0 ∨ y0 = 1) ∧ Q (.inl (some (.int y0))) w)
theorem zt_X13_sameMany_p20 {E : zE} {L : Nat} {Q : kx_Rs → wS → Prop} {y0 : Int32} {w : wS} (hL : 19 ≤ L) (h : zb_X13_sameMany_p20 E L Q y0 w) : kzE E L kt_M528 20 [] [.int y0] w Q := by
  unfold zb_X13_sameMany_p20 at h
  exact kz_iretz (M := kt_M528) kX13_sameMany_c1.2.2.2.2.1 rfl h.1 h.2
def zb_X13_sameMany_p10 (E : zE) (L : Nat) (Q : kx_Rs → wS → Prop) (x0 : Int32) (x1 : Int32) (w : wS) : Prop := (if ¬ x0 = x1 then zb_X13_sameMany_p20 E L Q 0 w else zb_X13_sameMany_p20 E L Q 1 w)
theorem zt_X13_sameMany_p10 {E : zE} {L : Nat} {Q : kx_Rs → wS → Prop} {x0 : Int32} {x1 : Int32} {w : wS} (hL : 19 ≤ L) (h : zb_X13_sameMany_p10 E L Q x0 x1 w) : kzE E L kt_M528 10 [(0, .int x0), (1, .int x1)] [] w Q := by
  unfold zb_X13_sameMany_p10 at h
  refine kz_iload_n (M := kt_M528) kX13_sameMany_c0.2.2.2.2.2.2.1 rfl ?_
  refine kz_iload_n (M := kt_M528) kX13_sameMany_c0.2.2.2.2.2.2.2.1 rfl ?_
  refine kz_icmp_ne (M := kt_M528) kX13_sameMany_c1.1 (t := 19) rfl h (fun h => ?_) (fun h => ?_)
  · skip
    refine kz_ic (M := kt_M528) 0 kX13_sameMany_c1.2.2.2.1 rfl ?_
    exact kz_weak [] trivial rfl (zt_X13_sameMany_p20 hL  h)
  · skip
    refine kz_ic (M := kt_M528) 1 kX13_sameMany_c1.2.1 rfl ?_
    refine kz_goto (M := kt_M528) kX13_sameMany_c1.2.2.1 (t := 20) rfl ?_
    exact kz_weak [] trivial rfl (zt_X13_sameMany_p20 hL  h)
def zb_X13_sameMany_p0 (E : zE) (L : Nat) (Q : kx_Rs → wS → Prop) (x0 : Int32) (x1 : Int32) (w : wS) : Prop := (if x0 = (-1) then zb_X13_sameMany_p10 E L Q x0 x1 w else (if ¬ x1 = (-1) then (if x0 = (-2) then zb_X13_sameMany_p38 E L Q w else (if x1 = (-2) then zb_X13_sameMany_p38 E L Q w else (if ¬ x0 = x1 then zb_X13_sameMany_p43 E L Q 0 w else zb_X13_sameMany_p38 E L Q w))) else zb_X13_sameMany_p10 E L Q x0 x1 w))
theorem zt_X13_sameMany_p0 {E : zE} {L : Nat} {Q : kx_Rs → wS → Prop} {x0 : Int32} {x1 : Int32} {w : wS} (hL : 19 ≤ L) (h : zb_X13_sameMany_p0 E L Q x0 x1 w) : kzE E L kt_M528 0 [(0, .int x0), (1, .int x1)] [] w Q := by
  unfold zb_X13_sameMany_p0 at h
  refine kz_iload_n (M := kt_M528) kX13_sameMany_c0.1 rfl ?_
  refine kz_ic (M := kt_M528) (-1) kX13_sameMany_c0.2.1 rfl ?_
  refine kz_icmp_eq (M := kt_M528) kX13_sameMany_c0.2.2.1 (t := 10) rfl h (fun h => ?_) (fun h => ?_)
  · skip
    exact kz_weak [(0, .int x0), (1, .int x1)] ⟨rfl, ⟨rfl, trivial⟩⟩ rfl (zt_X13_sameMany_p10 hL  h)
  · skip
    refine kz_iload_n (M := kt_M528) kX13_sameMany_c0.2.2.2.1 rfl ?_
    refine kz_ic (M := kt_M528) (-1) kX13_sameMany_c0.2.2.2.2.1 rfl ?_
    refine kz_icmp_ne (M := kt_M528) kX13_sameMany_c0.2.2.2.2.2.1 (t := 21) rfl h (fun h => ?_) (fun h => ?_)
    · skip
      refine kz_iload_n (M := kt_M528) kX13_sameMany_c1.2.2.2.2.2.1 rfl ?_
      refine kz_bi (M := kt_M528) (-2) kX13_sameMany_c1.2.2.2.2.2.2.1 rfl ?_
      refine kz_icmp_eq (M := kt_M528) kX13_sameMany_c1.2.2.2.2.2.2.2.1 (t := 38) rfl h (fun h => ?_) (fun h => ?_)
      · skip
        exact kz_weak [] trivial rfl (zt_X13_sameMany_p38 hL  h)
      · skip
        refine kz_iload_n (M := kt_M528) kX13_sameMany_c2.1 rfl ?_
        refine kz_bi (M := kt_M528) (-2) kX13_sameMany_c2.2.1 rfl ?_
        refine kz_icmp_eq (M := kt_M528) kX13_sameMany_c2.2.2.1 (t := 38) rfl h (fun h => ?_) (fun h => ?_)
        · skip
          exact kz_weak [] trivial rfl (zt_X13_sameMany_p38 hL  h)
        · skip
          refine kz_iload_n (M := kt_M528) kX13_sameMany_c2.2.2.2.1 rfl ?_
          refine kz_iload_n (M := kt_M528) kX13_sameMany_c2.2.2.2.2.1 rfl ?_
          refine kz_icmp_ne (M := kt_M528) kX13_sameMany_c2.2.2.2.2.2.1 (t := 42) rfl h (fun h => ?_) (fun h => ?_)
          · skip
            refine kz_ic (M := kt_M528) 0 kX13_sameMany_c3.1 rfl ?_
            exact kz_weak [] trivial rfl (zt_X13_sameMany_p43 hL  h)
          · skip
            exact kz_weak [] trivial rfl (zt_X13_sameMany_p38 hL  h)
    · skip
      exact kz_weak [(0, .int x0), (1, .int x1)] ⟨rfl, ⟨rfl, trivial⟩⟩ rfl (zt_X13_sameMany_p10 hL  h)
def zL_X13_typeIn_p72 (E : zE) (L : Nat) (Q : kx_Rs → wS → Prop) (x3 : Int32) (w : wS) : Prop := kzE E L kt_M578 72 [(0, .ref (w_adr E.2.1 12 0)), (3, .int x3)] [] w Q
def zb_X13_typeIn_p72 (E : zE) (L : Nat) (Q : kx_Rs → wS → Prop) (x3 : Int32) (w : wS) : Prop := (if x3 < 0 then Q (.inl none) w else zw E (L - 23) kt_M576 [.ref (w_adr E.2.1 12 0), .int x3] w (wk1 (fun v2 w1 => wle w w1 → (kx_inb x3 (w_n w1 12 0 32) = true ∧ zL_X13_typeIn_p72 E L Q (w_a w1 12 0 32 (x3).toNatClampNeg) w1)) (fun e w => Q (.inr e) w)))
theorem zt_X13_typeIn_p72 {E : zE} {L : Nat} {Q : kx_Rs → wS → Prop} {x3 : Int32} {w : wS} (hL : 29 ≤ L) (h : zb_X13_typeIn_p72 E L Q x3 w) : kzE E L kt_M578 72 [(0, .ref (w_adr E.2.1 12 0)), (3, .int x3)] [] w Q := by
  unfold zb_X13_typeIn_p72 at h
  refine kz_iload_n (M := kt_M578) kX13_typeIn_c5.2.2.2.1 rfl ?_
  refine kz_if_lt (M := kt_M578) kX13_typeIn_c5.2.2.2.2.1 (t := 93) rfl h (fun h => ?_) (fun h => ?_)
  · skip
    exact kz_ret (M := kt_M578) kX13_typeIn_c6.2.2.2.2.2.2.2.1 rfl h
  · skip
    refine kz_aload_n (M := kt_M578) kX13_typeIn_c5.2.2.2.2.2.1 rfl ?_
    refine kz_iload_n (M := kt_M578) kX13_typeIn_c5.2.2.2.2.2.2.1 rfl ?_
    refine kz_cv1 (M := kt_M578) (c := 12) (o := 0) (As := [.int x3]) (rest := []) kX13_typeIn_c5.2.2.2.2.2.2.2.1 wl_X13_853 wMv_576 rfl (.inl rfl) rfl (Nat.le_trans (Nat.le_of_ble_eq_true rfl) hL) (Nat.le_of_ble_eq_true rfl) (Nat.le_of_ble_eq_true rfl) h (fun v2 w1 hle h => ?_) (fun _ _ _ h => kzx_no rfl h)
    have h := h hle
    refine kz_sti (M := kt_M578) [(0, .ref (w_adr E.2.1 12 0)), (3, .int x3)] kX13_typeIn_c6.1 (Nat.le_of_ble_eq_true rfl) ⟨⟨rfl, rfl, .inl rfl⟩, ⟨⟨rfl, rfl, .inr rfl⟩, trivial⟩⟩ rfl ?_
    refine kz_aload_n (M := kt_M578) kX13_typeIn_c6.2.1 rfl ?_
    refine kz_gfc (M := kt_M578) (x := 4104) (c := 12) (o := 0) kX13_typeIn_c6.2.2.1 wf_X13_205 (.inl rfl) ?_
    refine kz_iload_n (M := kt_M578) kX13_typeIn_c6.2.2.2.1 rfl ?_
    refine kz_iald (M := kt_M578) (c := 12) (o := 0) (k := 32) (a := (E.2.1 4104)) kX13_typeIn_c6.2.2.2.2.1 ow_12_0_32 oa_12_0_32 ot_0 h (fun h => ?_)
    refine kz_sti_n (M := kt_M578) [(0, .ref (w_adr E.2.1 12 0))] kX13_typeIn_c6.2.2.2.2.2.1 (Nat.le_of_ble_eq_true rfl) ⟨⟨rfl, rfl, .inl rfl⟩, trivial⟩ rfl ?_
    refine kz_goto (M := kt_M578) kX13_typeIn_c6.2.2.2.2.2.2.1 (t := 72) rfl ?_
    exact kz_weak [(0, .ref (w_adr E.2.1 12 0)), (3, .int (w_a w1 12 0 32 (x3).toNatClampNeg))] ⟨rfl, ⟨rfl, trivial⟩⟩ rfl h
def zb_X13_typeIn_p65 (E : zE) (L : Nat) (Q : kx_Rs → wS → Prop) (x1 : Int32) (w : wS) : Prop := (kx_inb x1 (w_n w 12 0 29) = true ∧ zL_X13_typeIn_p72 E L Q (w_a w 12 0 29 (x1).toNatClampNeg) w)
theorem zt_X13_typeIn_p65 {E : zE} {L : Nat} {Q : kx_Rs → wS → Prop} {x1 : Int32} {w : wS} (hL : 29 ≤ L) (h : zb_X13_typeIn_p65 E L Q x1 w) : kzE E L kt_M578 65 [(0, .ref (w_adr E.2.1 12 0)), (1, .int x1)] [] w Q := by
  unfold zb_X13_typeIn_p65 at h
  refine kz_aload_n (M := kt_M578) kX13_typeIn_c4.2.2.2.2.2.2.1 rfl ?_
  refine kz_gfc (M := kt_M578) (x := 4101) (c := 12) (o := 0) kX13_typeIn_c4.2.2.2.2.2.2.2.1 wf_X13_196 (.inl rfl) ?_
  refine kz_iload_n (M := kt_M578) kX13_typeIn_c5.1 rfl ?_
  refine kz_iald (M := kt_M578) (c := 12) (o := 0) (k := 29) (a := (E.2.1 4101)) kX13_typeIn_c5.2.1 ow_12_0_29 oa_12_0_29 ot_0 h (fun h => ?_)
  refine kz_sti_n (M := kt_M578) [(0, .ref (w_adr E.2.1 12 0))] kX13_typeIn_c5.2.2.1 (Nat.le_of_ble_eq_true rfl) ⟨⟨rfl, rfl, .inl rfl⟩, trivial⟩ rfl ?_
  exact kz_weak [(0, .ref (w_adr E.2.1 12 0)), (3, .int (w_a w 12 0 29 (x1).toNatClampNeg))] ⟨rfl, ⟨rfl, trivial⟩⟩ rfl h
def zb_X13_typeIn_p49 (E : zE) (L : Nat) (Q : kx_Rs → wS → Prop) (x1 : Int32) (x2 : Int32) (w : wS) : Prop := (if x2 < 0 then zb_X13_typeIn_p65 E L Q x1 w else (kx_inb x1 (w_n w 12 0 27) = true ∧ zw E (L - 22) kt_M560 [.ref (w_adr E.2.1 12 0), .int 7, .int (w_a w 12 0 27 (x1).toNatClampNeg)] w (wk0 (fun w1 => wle w w1 → zb_X13_typeIn_p65 E L Q x1 w1) (fun e w => Q (.inr e) w))))
theorem zt_X13_typeIn_p49 {E : zE} {L : Nat} {Q : kx_Rs → wS → Prop} {x1 : Int32} {x2 : Int32} {w : wS} (hL : 29 ≤ L) (h : zb_X13_typeIn_p49 E L Q x1 x2 w) : kzE E L kt_M578 49 [(0, .ref (w_adr E.2.1 12 0)), (1, .int x1), (2, .int x2)] [] w Q := by
  unfold zb_X13_typeIn_p49 at h
  refine kz_iload_n (M := kt_M578) kX13_typeIn_c3.2.2.2.2.2.1 rfl ?_
  refine kz_if_lt (M := kt_M578) kX13_typeIn_c3.2.2.2.2.2.2.1 (t := 65) rfl h (fun h => ?_) (fun h => ?_)
  · skip
    exact kz_weak [(0, .ref (w_adr E.2.1 12 0)), (1, .int x1)] ⟨rfl, ⟨rfl, trivial⟩⟩ rfl (zt_X13_typeIn_p65 hL  h)
  · skip
    refine kz_aload_n (M := kt_M578) kX13_typeIn_c3.2.2.2.2.2.2.2.1 rfl ?_
    refine kz_bi (M := kt_M578) 7 kX13_typeIn_c4.1 rfl ?_
    refine kz_aload_n (M := kt_M578) kX13_typeIn_c4.2.1 rfl ?_
    refine kz_gfc (M := kt_M578) (x := 4099) (c := 12) (o := 0) kX13_typeIn_c4.2.2.1 wf_X13_190 (.inl rfl) ?_
    refine kz_iload_n (M := kt_M578) kX13_typeIn_c4.2.2.2.1 rfl ?_
    refine kz_iald (M := kt_M578) (c := 12) (o := 0) (k := 27) (a := (E.2.1 4099)) kX13_typeIn_c4.2.2.2.2.1 ow_12_0_27 oa_12_0_27 ot_0 h (fun h => ?_)
    refine kz_cv0 (M := kt_M578) (c := 12) (o := 0) (As := [.int 7, .int (w_a w 12 0 27 (x1).toNatClampNeg)]) (rest := []) kX13_typeIn_c4.2.2.2.2.2.1 wl_X13_734 wMv_560 rfl (.inl rfl) rfl (Nat.le_trans (Nat.le_of_ble_eq_true rfl) hL) (Nat.le_of_ble_eq_true rfl) (Nat.le_of_ble_eq_true rfl) h (fun w1 hle h => ?_) (fun _ _ _ h => kzx_no rfl h)
    have h := h hle
    exact kz_weak [(0, .ref (w_adr E.2.1 12 0)), (1, .int x1)] ⟨rfl, ⟨rfl, trivial⟩⟩ rfl (zt_X13_typeIn_p65 hL  h)
def zb_X13_typeIn_p37 (E : zE) (L : Nat) (Q : kx_Rs → wS → Prop) (x1 : Int32) (x2 : Int32) (w : wS) : Prop := (if x2 < 0 then zb_X13_typeIn_p49 E L Q x1 x2 w else zw E (L - 21) kt_M427 [.ref (w_adr E.2.1 12 0), .int x2] w (wk1 (fun v2 w1 => wle w w1 → (if v2 = 0 then (kx_inb x1 (w_n w1 12 0 29) = true ∧ zw E (L - 22) kt_M508 [.ref (w_adr E.2.1 12 0), .int x2] w1 (wk1 (fun v4 w3 => wle w1 w3 → (kx_inb x2 (w_n w3 12 0 47) = true ∧ zw E (L - 29) kt_M580 [.ref (w_adr E.2.1 12 0), .int x1, .int (w_a w1 12 0 29 (x1).toNatClampNeg), .int v4, .int (w_a w3 12 0 47 (x2).toNatClampNeg)] w3 (wk0 (fun w5 => wle w3 w5 → Q (.inl none) w5) (fun e w => Q (.inr e) w)))) (fun e w => Q (.inr e) w))) else zb_X13_typeIn_p49 E L Q x1 x2 w1)) (fun e w => Q (.inr e) w)))
theorem zt_X13_typeIn_p37 {E : zE} {L : Nat} {Q : kx_Rs → wS → Prop} {x1 : Int32} {x2 : Int32} {w : wS} (hL : 29 ≤ L) (h : zb_X13_typeIn_p37 E L Q x1 x2 w) : kzE E L kt_M578 37 [(0, .ref (w_adr E.2.1 12 0)), (1, .int x1), (2, .int x2)] [] w Q := by
  unfold zb_X13_typeIn_p37 at h
  refine kz_iload_n (M := kt_M578) kX13_typeIn_c2.2.2.2.2.2.2.2.1 rfl ?_
  refine kz_if_lt (M := kt_M578) kX13_typeIn_c3.1 (t := 49) rfl h (fun h => ?_) (fun h => ?_)
  · skip
    exact kz_weak [(0, .ref (w_adr E.2.1 12 0)), (1, .int x1), (2, .int x2)] ⟨rfl, ⟨rfl, ⟨rfl, trivial⟩⟩⟩ rfl (zt_X13_typeIn_p49 hL  h)
  · skip
    refine kz_aload_n (M := kt_M578) kX13_typeIn_c3.2.1 rfl ?_
    refine kz_iload_n (M := kt_M578) kX13_typeIn_c3.2.2.1 rfl ?_
    refine kz_cv1 (M := kt_M578) (c := 12) (o := 0) (As := [.int x2]) (rest := []) kX13_typeIn_c3.2.2.2.1 wl_X13_784 wMv_427 rfl (.inl rfl) rfl (Nat.le_trans (Nat.le_of_ble_eq_true rfl) hL) (Nat.le_of_ble_eq_true rfl) (Nat.le_of_ble_eq_true rfl) h (fun v2 w1 hle h => ?_) (fun _ _ _ h => kzx_no rfl h)
    have h := h hle
    refine kz_if_eq (M := kt_M578) kX13_typeIn_c3.2.2.2.2.1 (t := 94) rfl h (fun h => ?_) (fun h => ?_)
    · skip
      refine kz_aload_n (M := kt_M578) kX13_typeIn_c7.1 rfl ?_
      refine kz_iload_n (M := kt_M578) kX13_typeIn_c7.2.1 rfl ?_
      refine kz_aload_n (M := kt_M578) kX13_typeIn_c7.2.2.1 rfl ?_
      refine kz_gfc (M := kt_M578) (x := 4101) (c := 12) (o := 0) kX13_typeIn_c7.2.2.2.1 wf_X13_196 (.inl rfl) ?_
      refine kz_iload_n (M := kt_M578) kX13_typeIn_c7.2.2.2.2.1 rfl ?_
      refine kz_iald (M := kt_M578) (c := 12) (o := 0) (k := 29) (a := (E.2.1 4101)) kX13_typeIn_c7.2.2.2.2.2.1 ow_12_0_29 oa_12_0_29 ot_0 h (fun h => ?_)
      refine kz_aload_n (M := kt_M578) kX13_typeIn_c7.2.2.2.2.2.2.1 rfl ?_
      refine kz_iload_n (M := kt_M578) kX13_typeIn_c7.2.2.2.2.2.2.2.1 rfl ?_
      refine kz_cv1 (M := kt_M578) (c := 12) (o := 0) (As := [.int x2]) (rest := [.int (w_a w1 12 0 29 (x1).toNatClampNeg), .int x1, .ref (w_adr E.2.1 12 0)]) kX13_typeIn_c8.1 wl_X13_904 wMv_508 rfl (.inl rfl) rfl (Nat.le_trans (Nat.le_of_ble_eq_true rfl) hL) (Nat.le_of_ble_eq_true rfl) (Nat.le_of_ble_eq_true rfl) h (fun v4 w3 hle h => ?_) (fun _ _ _ h => kzx_no rfl h)
      have h := h hle
      refine kz_aload_n (M := kt_M578) kX13_typeIn_c8.2.1 rfl ?_
      refine kz_gfc (M := kt_M578) (x := 4119) (c := 12) (o := 0) kX13_typeIn_c8.2.2.1 wf_X13_226 (.inl rfl) ?_
      refine kz_iload_n (M := kt_M578) kX13_typeIn_c8.2.2.2.1 rfl ?_
      refine kz_iald (M := kt_M578) (c := 12) (o := 0) (k := 47) (a := (E.2.1 4119)) kX13_typeIn_c8.2.2.2.2.1 ow_12_0_47 oa_12_0_47 ot_0 h (fun h => ?_)
      refine kz_cv0 (M := kt_M578) (c := 12) (o := 0) (As := [.int x1, .int (w_a w1 12 0 29 (x1).toNatClampNeg), .int v4, .int (w_a w3 12 0 47 (x2).toNatClampNeg)]) (rest := []) kX13_typeIn_c8.2.2.2.2.2.1 wl_X13_907 wMv_580 rfl (.inl rfl) rfl (Nat.le_trans (Nat.le_of_ble_eq_true rfl) hL) (Nat.le_of_ble_eq_true rfl) (Nat.le_of_ble_eq_true rfl) h (fun w5 hle h => ?_) (fun _ _ _ h => kzx_no rfl h)
      have h := h hle
      exact kz_ret (M := kt_M578) kX13_typeIn_c8.2.2.2.2.2.2.1 rfl h
    · skip
      exact kz_weak [(0, .ref (w_adr E.2.1 12 0)), (1, .int x1), (2, .int x2)] ⟨rfl, ⟨rfl, ⟨rfl, trivial⟩⟩⟩ rfl (zt_X13_typeIn_p49 hL  h)
def zb_X13_typeIn_p0 (E : zE) (L : Nat) (Q : kx_Rs → wS → Prop) (x1 : Int32) (w : wS) : Prop := (kx_inb x1 (w_n w 12 0 28) = true ∧ zw E (L - 22) kt_M573 [.ref (w_adr E.2.1 12 0), .int (w_a w 12 0 28 (x1).toNatClampNeg)] w (wk1 (fun v2 w1 => wle w w1 → (if v2 < 0 then zb_X13_typeIn_p37 E L Q x1 v2 w1 else (kx_inb v2 (w_n w1 12 0 46) = true ∧ (if ¬ w_a w1 12 0 46 (v2).toNatClampNeg = 4 then zb_X13_typeIn_p37 E L Q x1 v2 w1 else (kx_inb x1 (w_n w1 12 0 29) = true ∧ zw E (L - 23) kt_M602 [.ref (w_adr E.2.1 12 0), .int (w_a w1 12 0 29 (x1).toNatClampNeg), .int 0] w1 (wk0 (fun w3 => wle w1 w3 → Q (.inl none) w3) (fun e w => Q (.inr e) w))))))) (fun e w => Q (.inr e) w)))
theorem zt_X13_typeIn_p0 {E : zE} {L : Nat} {Q : kx_Rs → wS → Prop} {x1 : Int32} {w : wS} (hL : 29 ≤ L) (h : zb_X13_typeIn_p0 E L Q x1 w) : kzE E L kt_M578 0 [(0, .ref (w_adr E.2.1 12 0)), (1, .int x1)] [] w Q := by
  unfold zb_X13_typeIn_p0 at h
  refine kz_aload_n (M := kt_M578) kX13_typeIn_c0.1 rfl ?_
  refine kz_aload_n (M := kt_M578) kX13_typeIn_c0.2.1 rfl ?_
  refine kz_gfc (M := kt_M578) (x := 4100) (c := 12) (o := 0) kX13_typeIn_c0.2.2.1 wf_X13_193 (.inl rfl) ?_
  refine kz_iload_n (M := kt_M578) kX13_typeIn_c0.2.2.2.1 rfl ?_
  refine kz_iald (M := kt_M578) (c := 12) (o := 0) (k := 28) (a := (E.2.1 4100)) kX13_typeIn_c0.2.2.2.2.1 ow_12_0_28 oa_12_0_28 ot_0 h (fun h => ?_)
  refine kz_cv1 (M := kt_M578) (c := 12) (o := 0) (As := [.int (w_a w 12 0 28 (x1).toNatClampNeg)]) (rest := []) kX13_typeIn_c0.2.2.2.2.2.1 wl_X13_901 wMv_573 rfl (.inl rfl) rfl (Nat.le_trans (Nat.le_of_ble_eq_true rfl) hL) (Nat.le_of_ble_eq_true rfl) (Nat.le_of_ble_eq_true rfl) h (fun v2 w1 hle h => ?_) (fun _ _ _ h => kzx_no rfl h)
  have h := h hle
  refine kz_sti_n (M := kt_M578) [(0, .ref (w_adr E.2.1 12 0)), (1, .int x1)] kX13_typeIn_c0.2.2.2.2.2.2.1 (Nat.le_of_ble_eq_true rfl) ⟨⟨rfl, rfl, .inl rfl⟩, ⟨⟨rfl, rfl, .inr rfl⟩, trivial⟩⟩ rfl ?_
  refine kz_iload_n (M := kt_M578) kX13_typeIn_c0.2.2.2.2.2.2.2.1 rfl ?_
  refine kz_if_lt (M := kt_M578) kX13_typeIn_c1.1 (t := 37) rfl h (fun h => ?_) (fun h => ?_)
  · skip
    exact kz_weak [(0, .ref (w_adr E.2.1 12 0)), (1, .int x1), (2, .int v2)] ⟨rfl, ⟨rfl, ⟨rfl, trivial⟩⟩⟩ rfl (zt_X13_typeIn_p37 hL  h)
  · skip
    refine kz_aload_n (M := kt_M578) kX13_typeIn_c1.2.1 rfl ?_
    refine kz_gfc (M := kt_M578) (x := 4118) (c := 12) (o := 0) kX13_typeIn_c1.2.2.1 wf_X13_223 (.inl rfl) ?_
    refine kz_iload_n (M := kt_M578) kX13_typeIn_c1.2.2.2.1 rfl ?_
    refine kz_iald (M := kt_M578) (c := 12) (o := 0) (k := 46) (a := (E.2.1 4118)) kX13_typeIn_c1.2.2.2.2.1 ow_12_0_46 oa_12_0_46 ot_0 h (fun h => ?_)
    refine kz_ic (M := kt_M578) 4 kX13_typeIn_c1.2.2.2.2.2.1 rfl ?_
    refine kz_icmp_ne (M := kt_M578) kX13_typeIn_c1.2.2.2.2.2.2.1 (t := 37) rfl h (fun h => ?_) (fun h => ?_)
    · skip
      exact kz_weak [(0, .ref (w_adr E.2.1 12 0)), (1, .int x1), (2, .int v2)] ⟨rfl, ⟨rfl, ⟨rfl, trivial⟩⟩⟩ rfl (zt_X13_typeIn_p37 hL  h)
    · skip
      refine kz_aload_n (M := kt_M578) kX13_typeIn_c1.2.2.2.2.2.2.2.1 rfl ?_
      refine kz_aload_n (M := kt_M578) kX13_typeIn_c2.1 rfl ?_
      refine kz_gfc (M := kt_M578) (x := 4101) (c := 12) (o := 0) kX13_typeIn_c2.2.1 wf_X13_196 (.inl rfl) ?_
      refine kz_iload_n (M := kt_M578) kX13_typeIn_c2.2.2.1 rfl ?_
      refine kz_iald (M := kt_M578) (c := 12) (o := 0) (k := 29) (a := (E.2.1 4101)) kX13_typeIn_c2.2.2.2.1 ow_12_0_29 oa_12_0_29 ot_0 h (fun h => ?_)
      refine kz_ic (M := kt_M578) 0 kX13_typeIn_c2.2.2.2.2.1 rfl ?_
      refine kz_cv0 (M := kt_M578) (c := 12) (o := 0) (As := [.int (w_a w1 12 0 29 (x1).toNatClampNeg), .int 0]) (rest := []) kX13_typeIn_c2.2.2.2.2.2.1 wl_X13_880 wMv_602 rfl (.inl rfl) rfl (Nat.le_trans (Nat.le_of_ble_eq_true rfl) hL) (Nat.le_of_ble_eq_true rfl) (Nat.le_of_ble_eq_true rfl) h (fun w3 hle h => ?_) (fun _ _ _ h => kzx_no rfl h)
      have h := h hle
      exact kz_ret (M := kt_M578) kX13_typeIn_c2.2.2.2.2.2.2.1 rfl h
def zb_X13_typeChannel_p20 (E : zE) (L : Nat) (Q : kx_Rs → wS → Prop) (w : wS) : Prop := Q (.inl (some (.int (-1)))) w
theorem zt_X13_typeChannel_p20 {E : zE} {L : Nat} {Q : kx_Rs → wS → Prop} {w : wS} (hL : 22 ≤ L) (h : zb_X13_typeChannel_p20 E L Q  w) : kzE E L kt_M573 20 [(0, .ref (w_adr E.2.1 12 0))] [] w Q := by
  unfold zb_X13_typeChannel_p20 at h
  refine kz_ic (M := kt_M573) (-1) kX13_typeChannel_c1.2.2.2.2.1 rfl ?_
  exact kz_iret (M := kt_M573) kX13_typeChannel_c1.2.2.2.2.2.1 rfl rfl h
def zb_X13_typeChannel_p0 (E : zE) (L : Nat) (Q : kx_Rs → wS → Prop) (x1 : Int32) (w : wS) : Prop := zw E (L - 22) kt_M577 [.ref (w_adr E.2.1 12 0), .int x1] w (wk1 (fun v2 w1 => wle w w1 → (kx_inb x1 (w_n w1 12 0 31) = true ∧ (if w_a w1 12 0 31 (x1).toNatClampNeg < 0 then zb_X13_typeChannel_p20 E L Q w1 else (if ¬ v2 = (-1) then (if w_i w1 12 0 73 = (-1) then (kx_inb x1 (w_n w1 12 0 31) = true ∧ Q (.inl (some (.int (w_a w1 12 0 31 (x1).toNatClampNeg)))) w1) else (kx_inb x1 (w_n w1 12 0 27) = true ∧ zw E (L - 22) kt_M560 [.ref (w_adr E.2.1 12 0), .int 7, .int (w_a w1 12 0 27 (x1).toNatClampNeg)] w1 (wk0 (fun w3 => wle w1 w3 → Q (.inl (some (.int (-1)))) w3) (fun e w => Q (.inr e) w)))) else zb_X13_typeChannel_p20 E L Q w1)))) (fun e w => Q (.inr e) w))
theorem zt_X13_typeChannel_p0 {E : zE} {L : Nat} {Q : kx_Rs → wS → Prop} {x1 : Int32} {w : wS} (hL : 22 ≤ L) (h : zb_X13_typeChannel_p0 E L Q x1 w) : kzE E L kt_M573 0 [(0, .ref (w_adr E.2.1 12 0)), (1, .int x1)] [] w Q := by
  unfold zb_X13_typeChannel_p0 at h
  refine kz_aload_n (M := kt_M573) kX13_typeChannel_c0.1 rfl ?_
  refine kz_iload_n (M := kt_M573) kX13_typeChannel_c0.2.1 rfl ?_
  refine kz_cv1 (M := kt_M573) (c := 12) (o := 0) (As := [.int x1]) (rest := []) kX13_typeChannel_c0.2.2.1 wl_X13_886 wMv_577 rfl (.inl rfl) rfl (Nat.le_trans (Nat.le_of_ble_eq_true rfl) hL) (Nat.le_of_ble_eq_true rfl) (Nat.le_of_ble_eq_true rfl) h (fun v2 w1 hle h => ?_) (fun _ _ _ h => kzx_no rfl h)
  have h := h hle
  refine kz_sti_n (M := kt_M573) [(0, .ref (w_adr E.2.1 12 0)), (1, .int x1)] kX13_typeChannel_c0.2.2.2.1 (Nat.le_of_ble_eq_true rfl) ⟨⟨rfl, rfl, .inl rfl⟩, ⟨⟨rfl, rfl, .inr rfl⟩, trivial⟩⟩ rfl ?_
  refine kz_aload_n (M := kt_M573) kX13_typeChannel_c0.2.2.2.2.1 rfl ?_
  refine kz_gfc (M := kt_M573) (x := 4103) (c := 12) (o := 0) kX13_typeChannel_c0.2.2.2.2.2.1 wf_X13_202 (.inl rfl) ?_
  refine kz_iload_n (M := kt_M573) kX13_typeChannel_c0.2.2.2.2.2.2.1 rfl ?_
  refine kz_iald (M := kt_M573) (c := 12) (o := 0) (k := 31) (a := (E.2.1 4103)) kX13_typeChannel_c0.2.2.2.2.2.2.2.1 ow_12_0_31 oa_12_0_31 ot_0 h (fun h => ?_)
  refine kz_if_lt (M := kt_M573) kX13_typeChannel_c1.1 (t := 20) rfl h (fun h => ?_) (fun h => ?_)
  · skip
    exact kz_weak [(0, .ref (w_adr E.2.1 12 0))] ⟨rfl, trivial⟩ rfl (zt_X13_typeChannel_p20 hL  h)
  · skip
    refine kz_iload_n (M := kt_M573) kX13_typeChannel_c1.2.1 rfl ?_
    refine kz_ic (M := kt_M573) (-1) kX13_typeChannel_c1.2.2.1 rfl ?_
    refine kz_icmp_ne (M := kt_M573) kX13_typeChannel_c1.2.2.2.1 (t := 22) rfl h (fun h => ?_) (fun h => ?_)
    · skip
      refine kz_aload_n (M := kt_M573) kX13_typeChannel_c1.2.2.2.2.2.2.1 rfl ?_
      refine kz_gfi (M := kt_M573) (c := 12) (o := 0) kX13_typeChannel_c1.2.2.2.2.2.2.2.1 wf_X13_859 (.inl rfl) ?_
      refine kz_ic (M := kt_M573) (-1) kX13_typeChannel_c2.1 rfl ?_
      refine kz_icmp_eq (M := kt_M573) kX13_typeChannel_c2.2.1 (t := 44) rfl h (fun h => ?_) (fun h => ?_)
      · skip
        refine kz_aload_n (M := kt_M573) kX13_typeChannel_c3.2.2.2.1 rfl ?_
        refine kz_gfc (M := kt_M573) (x := 4103) (c := 12) (o := 0) kX13_typeChannel_c3.2.2.2.2.1 wf_X13_202 (.inl rfl) ?_
        refine kz_iload_n (M := kt_M573) kX13_typeChannel_c3.2.2.2.2.2.1 rfl ?_
        refine kz_iald (M := kt_M573) (c := 12) (o := 0) (k := 31) (a := (E.2.1 4103)) kX13_typeChannel_c3.2.2.2.2.2.2.1 ow_12_0_31 oa_12_0_31 ot_0 h (fun h => ?_)
        exact kz_iret (M := kt_M573) kX13_typeChannel_c3.2.2.2.2.2.2.2.1 rfl rfl h
      · skip
        refine kz_aload_n (M := kt_M573) kX13_typeChannel_c2.2.2.1 rfl ?_
        refine kz_bi (M := kt_M573) 7 kX13_typeChannel_c2.2.2.2.1 rfl ?_
        refine kz_aload_n (M := kt_M573) kX13_typeChannel_c2.2.2.2.2.1 rfl ?_
        refine kz_gfc (M := kt_M573) (x := 4099) (c := 12) (o := 0) kX13_typeChannel_c2.2.2.2.2.2.1 wf_X13_190 (.inl rfl) ?_
        refine kz_iload_n (M := kt_M573) kX13_typeChannel_c2.2.2.2.2.2.2.1 rfl ?_
        refine kz_iald (M := kt_M573) (c := 12) (o := 0) (k := 27) (a := (E.2.1 4099)) kX13_typeChannel_c2.2.2.2.2.2.2.2.1 ow_12_0_27 oa_12_0_27 ot_0 h (fun h => ?_)
        refine kz_cv0 (M := kt_M573) (c := 12) (o := 0) (As := [.int 7, .int (w_a w1 12 0 27 (x1).toNatClampNeg)]) (rest := []) kX13_typeChannel_c3.1 wl_X13_734 wMv_560 rfl (.inl rfl) rfl (Nat.le_trans (Nat.le_of_ble_eq_true rfl) hL) (Nat.le_of_ble_eq_true rfl) (Nat.le_of_ble_eq_true rfl) h (fun w3 hle h => ?_) (fun _ _ _ h => kzx_no rfl h)
        have h := h hle
        refine kz_ic (M := kt_M573) (-1) kX13_typeChannel_c3.2.1 rfl ?_
        exact kz_iret (M := kt_M573) kX13_typeChannel_c3.2.2.1 rfl rfl h
    · skip
      exact kz_weak [(0, .ref (w_adr E.2.1 12 0))] ⟨rfl, trivial⟩ rfl (zt_X13_typeChannel_p20 hL  h)
def zb_X13_partsOfKind_p32 (E : zE) (L : Nat) (Q : kx_Rs → wS → Prop) (y0 : Int32) (w : wS) : Prop := Q (.inl (some (.int y0))) w
theorem zt_X13_partsOfKind_p32 {E : zE} {L : Nat} {Q : kx_Rs → wS → Prop} {y0 : Int32} {w : wS} (hL : 19 ≤ L) (h : zb_X13_partsOfKind_p32 E L Q y0 w) : kzE E L kt_M508 32 [(0, .ref (w_adr E.2.1 12 0))] [.int y0] w Q := by
  unfold zb_X13_partsOfKind_p32 at h
  exact kz_iret (M := kt_M508) kX13_partsOfKind_c2.2.2.2.1 rfl rfl h
def zb_X13_partsOfKind_p0 (E : zE) (L : Nat) (Q : kx_Rs → wS → Prop) (x1 : Int32) (w : wS) : Prop := (kx_inb x1 (w_n w 12 0 47) = true ∧ (if 16 ≤ w_a w 12 0 47 (x1).toNatClampNeg then (kx_inb ((w_a w 12 0 47 (x1).toNatClampNeg) - 16) (w_n w 12 0 49) = true ∧ (kx_inb (w_a w 12 0 49 (((w_a w 12 0 47 (x1).toNatClampNeg) - 16)).toNatClampNeg) (w_n w 12 0 29) = true ∧ zb_X13_partsOfKind_p32 E L Q (w_a w 12 0 29 (w_a w 12 0 49 (((w_a w 12 0 47 (x1).toNatClampNeg) - 16)).toNatClampNeg).toNatClampNeg) w)) else zb_X13_partsOfKind_p32 E L Q (-2) w))
theorem zt_X13_partsOfKind_p0 {E : zE} {L : Nat} {Q : kx_Rs → wS → Prop} {x1 : Int32} {w : wS} (hL : 19 ≤ L) (h : zb_X13_partsOfKind_p0 E L Q x1 w) : kzE E L kt_M508 0 [(0, .ref (w_adr E.2.1 12 0)), (1, .int x1)] [] w Q := by
  unfold zb_X13_partsOfKind_p0 at h
  refine kz_aload_n (M := kt_M508) kX13_partsOfKind_c0.1 rfl ?_
  refine kz_gfc (M := kt_M508) (x := 4119) (c := 12) (o := 0) kX13_partsOfKind_c0.2.1 wf_X13_226 (.inl rfl) ?_
  refine kz_iload_n (M := kt_M508) kX13_partsOfKind_c0.2.2.1 rfl ?_
  refine kz_iald (M := kt_M508) (c := 12) (o := 0) (k := 47) (a := (E.2.1 4119)) kX13_partsOfKind_c0.2.2.2.1 ow_12_0_47 oa_12_0_47 ot_0 h (fun h => ?_)
  refine kz_sti_n (M := kt_M508) [(0, .ref (w_adr E.2.1 12 0))] kX13_partsOfKind_c0.2.2.2.2.1 (Nat.le_of_ble_eq_true rfl) ⟨⟨rfl, rfl, .inl rfl⟩, trivial⟩ rfl ?_
  refine kz_iload_n (M := kt_M508) kX13_partsOfKind_c0.2.2.2.2.2.1 rfl ?_
  refine kz_bi (M := kt_M508) 16 kX13_partsOfKind_c0.2.2.2.2.2.2.1 rfl ?_
  refine kz_icmp_ge (M := kt_M508) kX13_partsOfKind_c0.2.2.2.2.2.2.2.1 (t := 18) rfl h (fun h => ?_) (fun h => ?_)
  · skip
    refine kz_aload_n (M := kt_M508) kX13_partsOfKind_c1.2.2.1 rfl ?_
    refine kz_gfc (M := kt_M508) (x := 4101) (c := 12) (o := 0) kX13_partsOfKind_c1.2.2.2.1 wf_X13_196 (.inl rfl) ?_
    refine kz_aload_n (M := kt_M508) kX13_partsOfKind_c1.2.2.2.2.1 rfl ?_
    refine kz_gfc (M := kt_M508) (x := 4121) (c := 12) (o := 0) kX13_partsOfKind_c1.2.2.2.2.2.1 wf_X13_232 (.inl rfl) ?_
    refine kz_iload_n (M := kt_M508) kX13_partsOfKind_c1.2.2.2.2.2.2.1 rfl ?_
    refine kz_bi (M := kt_M508) 16 kX13_partsOfKind_c1.2.2.2.2.2.2.2.1 rfl ?_
    refine kz_isub (M := kt_M508) kX13_partsOfKind_c2.1 ?_
    refine kz_iald (M := kt_M508) (c := 12) (o := 0) (k := 49) (a := (E.2.1 4121)) kX13_partsOfKind_c2.2.1 ow_12_0_49 oa_12_0_49 ot_0 h (fun h => ?_)
    refine kz_iald (M := kt_M508) (c := 12) (o := 0) (k := 29) (a := (E.2.1 4101)) kX13_partsOfKind_c2.2.2.1 ow_12_0_29 oa_12_0_29 ot_0 h (fun h => ?_)
    exact kz_weak [(0, .ref (w_adr E.2.1 12 0))] ⟨rfl, trivial⟩ rfl (zt_X13_partsOfKind_p32 hL  h)
  · skip
    refine kz_bi (M := kt_M508) (-2) kX13_partsOfKind_c1.1 rfl ?_
    refine kz_goto (M := kt_M508) kX13_partsOfKind_c1.2.1 (t := 32) rfl ?_
    exact kz_weak [(0, .ref (w_adr E.2.1 12 0))] ⟨rfl, trivial⟩ rfl (zt_X13_partsOfKind_p32 hL  h)
def zL_X13_typeMessage_p115 (E : zE) (L : Nat) (Q : kx_Rs → wS → Prop) (x1 : Int32) (x5 : Int32) (x6 : Int32) (x7 : Int32) (w : wS) : Prop := kzE E L kt_M580 115 [(0, .ref (w_adr E.2.1 12 0)), (1, .int x1), (5, .int x5), (6, .int x6), (7, .int x7)] [] w Q
def zL_X13_typeMessage_p6 (E : zE) (L : Nat) (Q : kx_Rs → wS → Prop) (x1 : Int32) (x4 : Int32) (x5 : Int32) (x6 : Int32) (w : wS) : Prop := kzE E L kt_M580 6 [(0, .ref (w_adr E.2.1 12 0)), (1, .int x1), (4, .int x4), (5, .int x5), (6, .int x6)] [] w Q
def zb_X13_typeMessage_p163 (E : zE) (L : Nat) (Q : kx_Rs → wS → Prop) (w : wS) : Prop := Q (.inl none) w
theorem zt_X13_typeMessage_p163 {E : zE} {L : Nat} {Q : kx_Rs → wS → Prop} {w : wS} (hL : 23 ≤ L) (h : zb_X13_typeMessage_p163 E L Q  w) : kzE E L kt_M580 163 [(0, .ref (w_adr E.2.1 12 0))] [] w Q := by
  unfold zb_X13_typeMessage_p163 at h
  exact kz_ret (M := kt_M580) kX13_typeMessage_c10.2.1 rfl h
def zb_X13_typeMessage_p151 (E : zE) (L : Nat) (Q : kx_Rs → wS → Prop) (x1 : Int32) (w : wS) : Prop := (kx_inb x1 (w_n w 12 0 27) = true ∧ zw E (L - 22) kt_M560 [.ref (w_adr E.2.1 12 0), .int 8, .int (w_a w 12 0 27 (x1).toNatClampNeg)] w (wk0 (fun w1 => wle w w1 → zb_X13_typeMessage_p163 E L Q w1) (fun e w => Q (.inr e) w)))
theorem zt_X13_typeMessage_p151 {E : zE} {L : Nat} {Q : kx_Rs → wS → Prop} {x1 : Int32} {w : wS} (hL : 23 ≤ L) (h : zb_X13_typeMessage_p151 E L Q x1 w) : kzE E L kt_M580 151 [(0, .ref (w_adr E.2.1 12 0)), (1, .int x1)] [] w Q := by
  unfold zb_X13_typeMessage_p151 at h
  refine kz_aload_n (M := kt_M580) kX13_typeMessage_c9.2.2.1 rfl ?_
  refine kz_bi (M := kt_M580) 8 kX13_typeMessage_c9.2.2.2.1 rfl ?_
  refine kz_aload_n (M := kt_M580) kX13_typeMessage_c9.2.2.2.2.1 rfl ?_
  refine kz_gfc (M := kt_M580) (x := 4099) (c := 12) (o := 0) kX13_typeMessage_c9.2.2.2.2.2.1 wf_X13_190 (.inl rfl) ?_
  refine kz_iload_n (M := kt_M580) kX13_typeMessage_c9.2.2.2.2.2.2.1 rfl ?_
  refine kz_iald (M := kt_M580) (c := 12) (o := 0) (k := 27) (a := (E.2.1 4099)) kX13_typeMessage_c9.2.2.2.2.2.2.2.1 ow_12_0_27 oa_12_0_27 ot_0 h (fun h => ?_)
  refine kz_cv0 (M := kt_M580) (c := 12) (o := 0) (As := [.int 8, .int (w_a w 12 0 27 (x1).toNatClampNeg)]) (rest := []) kX13_typeMessage_c10.1 wl_X13_734 wMv_560 rfl (.inl rfl) rfl (Nat.le_trans (Nat.le_of_ble_eq_true rfl) hL) (Nat.le_of_ble_eq_true rfl) (Nat.le_of_ble_eq_true rfl) h (fun w1 hle h => ?_) (fun _ _ _ h => kzx_no rfl h)
  have h := h hle
  exact kz_weak [(0, .ref (w_adr E.2.1 12 0))] ⟨rfl, trivial⟩ rfl (zt_X13_typeMessage_p163 hL  h)
def zb_X13_typeMessage_p115 (E : zE) (L : Nat) (Q : kx_Rs → wS → Prop) (x1 : Int32) (x5 : Int32) (x6 : Int32) (x7 : Int32) (w : wS) : Prop := (if x7 < 0 then (if 0 ≤ x6 then zb_X13_typeMessage_p151 E L Q x1 w else (if x5 = (-1) then zb_X13_typeMessage_p163 E L Q w else zb_X13_typeMessage_p151 E L Q x1 w)) else zw E (L - 23) kt_M576 [.ref (w_adr E.2.1 12 0), .int x7] w (wk1 (fun v2 w1 => wle w w1 → (kx_inb x7 (w_n w1 12 0 32) = true ∧ zL_X13_typeMessage_p115 E L Q x1 x5 x6 (w_a w1 12 0 32 (x7).toNatClampNeg) w1)) (fun e w => Q (.inr e) w)))
theorem zt_X13_typeMessage_p115 {E : zE} {L : Nat} {Q : kx_Rs → wS → Prop} {x1 : Int32} {x5 : Int32} {x6 : Int32} {x7 : Int32} {w : wS} (hL : 23 ≤ L) (h : zb_X13_typeMessage_p115 E L Q x1 x5 x6 x7 w) : kzE E L kt_M580 115 [(0, .ref (w_adr E.2.1 12 0)), (1, .int x1), (5, .int x5), (6, .int x6), (7, .int x7)] [] w Q := by
  unfold zb_X13_typeMessage_p115 at h
  refine kz_iload (M := kt_M580) kX13_typeMessage_c7.2.1 rfl ?_
  refine kz_if_lt (M := kt_M580) kX13_typeMessage_c7.2.2.1 (t := 140) rfl h (fun h => ?_) (fun h => ?_)
  · skip
    refine kz_iload (M := kt_M580) kX13_typeMessage_c8.2.2.2.2.2.1 rfl ?_
    refine kz_if_ge (M := kt_M580) kX13_typeMessage_c8.2.2.2.2.2.2.1 (t := 151) rfl h (fun h => ?_) (fun h => ?_)
    · skip
      exact kz_weak [(0, .ref (w_adr E.2.1 12 0)), (1, .int x1)] ⟨rfl, ⟨rfl, trivial⟩⟩ rfl (zt_X13_typeMessage_p151 hL  h)
    · skip
      refine kz_iload (M := kt_M580) kX13_typeMessage_c8.2.2.2.2.2.2.2.1 rfl ?_
      refine kz_ic (M := kt_M580) (-1) kX13_typeMessage_c9.1 rfl ?_
      refine kz_icmp_eq (M := kt_M580) kX13_typeMessage_c9.2.1 (t := 163) rfl h (fun h => ?_) (fun h => ?_)
      · skip
        exact kz_weak [(0, .ref (w_adr E.2.1 12 0))] ⟨rfl, trivial⟩ rfl (zt_X13_typeMessage_p163 hL  h)
      · skip
        exact kz_weak [(0, .ref (w_adr E.2.1 12 0)), (1, .int x1)] ⟨rfl, ⟨rfl, trivial⟩⟩ rfl (zt_X13_typeMessage_p151 hL  h)
  · skip
    refine kz_aload_n (M := kt_M580) kX13_typeMessage_c7.2.2.2.1 rfl ?_
    refine kz_iload (M := kt_M580) kX13_typeMessage_c7.2.2.2.2.1 rfl ?_
    refine kz_cv1 (M := kt_M580) (c := 12) (o := 0) (As := [.int x7]) (rest := []) kX13_typeMessage_c7.2.2.2.2.2.1 wl_X13_853 wMv_576 rfl (.inl rfl) rfl (Nat.le_trans (Nat.le_of_ble_eq_true rfl) hL) (Nat.le_of_ble_eq_true rfl) (Nat.le_of_ble_eq_true rfl) h (fun v2 w1 hle h => ?_) (fun _ _ _ h => kzx_no rfl h)
    have h := h hle
    refine kz_sti (M := kt_M580) [(0, .ref (w_adr E.2.1 12 0)), (1, .int x1), (5, .int x5), (6, .int x6), (7, .int x7)] kX13_typeMessage_c7.2.2.2.2.2.2.1 (Nat.le_of_ble_eq_true rfl) ⟨⟨rfl, rfl, .inl rfl⟩, ⟨⟨rfl, rfl, .inl rfl⟩, ⟨⟨rfl, rfl, .inl rfl⟩, ⟨⟨rfl, rfl, .inl rfl⟩, ⟨⟨rfl, rfl, .inr rfl⟩, trivial⟩⟩⟩⟩⟩ rfl ?_
    refine kz_aload_n (M := kt_M580) kX13_typeMessage_c7.2.2.2.2.2.2.2.1 rfl ?_
    refine kz_gfc (M := kt_M580) (x := 4104) (c := 12) (o := 0) kX13_typeMessage_c8.1 wf_X13_205 (.inl rfl) ?_
    refine kz_iload (M := kt_M580) kX13_typeMessage_c8.2.1 rfl ?_
    refine kz_iald (M := kt_M580) (c := 12) (o := 0) (k := 32) (a := (E.2.1 4104)) kX13_typeMessage_c8.2.2.1 ow_12_0_32 oa_12_0_32 ot_0 h (fun h => ?_)
    refine kz_sti (M := kt_M580) [(0, .ref (w_adr E.2.1 12 0)), (1, .int x1), (5, .int x5), (6, .int x6)] kX13_typeMessage_c8.2.2.2.1 (Nat.le_of_ble_eq_true rfl) ⟨⟨rfl, rfl, .inl rfl⟩, ⟨⟨rfl, rfl, .inl rfl⟩, ⟨⟨rfl, rfl, .inl rfl⟩, ⟨⟨rfl, rfl, .inr rfl⟩, trivial⟩⟩⟩⟩ rfl ?_
    refine kz_goto (M := kt_M580) kX13_typeMessage_c8.2.2.2.2.1 (t := 115) rfl ?_
    exact kz_weak [(0, .ref (w_adr E.2.1 12 0)), (1, .int x1), (5, .int x5), (6, .int x6), (7, .int (w_a w1 12 0 32 (x7).toNatClampNeg))] ⟨rfl, ⟨rfl, ⟨rfl, ⟨rfl, ⟨rfl, trivial⟩⟩⟩⟩⟩ rfl h
def zb_X13_typeMessage_p111 (E : zE) (L : Nat) (Q : kx_Rs → wS → Prop) (x1 : Int32) (x5 : Int32) (x6 : Int32) (w : wS) : Prop := zL_X13_typeMessage_p115 E L Q x1 x5 x6 x6 w
theorem zt_X13_typeMessage_p111 {E : zE} {L : Nat} {Q : kx_Rs → wS → Prop} {x1 : Int32} {x5 : Int32} {x6 : Int32} {w : wS} (hL : 23 ≤ L) (h : zb_X13_typeMessage_p111 E L Q x1 x5 x6 w) : kzE E L kt_M580 111 [(0, .ref (w_adr E.2.1 12 0)), (1, .int x1), (5, .int x5), (6, .int x6)] [] w Q := by
  unfold zb_X13_typeMessage_p111 at h
  refine kz_iload (M := kt_M580) kX13_typeMessage_c6.2.2.2.2.2.2.2.1 rfl ?_
  refine kz_sti (M := kt_M580) [(0, .ref (w_adr E.2.1 12 0)), (1, .int x1), (5, .int x5), (6, .int x6)] kX13_typeMessage_c7.1 (Nat.le_of_ble_eq_true rfl) ⟨⟨rfl, rfl, .inl rfl⟩, ⟨⟨rfl, rfl, .inl rfl⟩, ⟨⟨rfl, rfl, .inl rfl⟩, ⟨⟨rfl, rfl, .inr rfl⟩, trivial⟩⟩⟩⟩ rfl ?_
  exact kz_weak [(0, .ref (w_adr E.2.1 12 0)), (1, .int x1), (5, .int x5), (6, .int x6), (7, .int x6)] ⟨rfl, ⟨rfl, ⟨rfl, ⟨rfl, ⟨rfl, trivial⟩⟩⟩⟩⟩ rfl h
def zb_X13_typeMessage_p106 (E : zE) (L : Nat) (Q : kx_Rs → wS → Prop) (x1 : Int32) (x4 : Int32) (x6 : Int32) (y0 : Int32) (w : wS) : Prop := zL_X13_typeMessage_p6 E L Q x1 x4 y0 x6 w
theorem zt_X13_typeMessage_p106 {E : zE} {L : Nat} {Q : kx_Rs → wS → Prop} {x1 : Int32} {x4 : Int32} {x6 : Int32} {y0 : Int32} {w : wS} (hL : 23 ≤ L) (h : zb_X13_typeMessage_p106 E L Q x1 x4 x6 y0 w) : kzE E L kt_M580 106 [(0, .ref (w_adr E.2.1 12 0)), (1, .int x1), (4, .int x4), (6, .int x6)] [.int y0] w Q := by
  unfold zb_X13_typeMessage_p106 at h
  refine kz_sti (M := kt_M580) [(0, .ref (w_adr E.2.1 12 0)), (1, .int x1), (4, .int x4), (6, .int x6)] kX13_typeMessage_c6.2.2.2.2.2.1 (Nat.le_of_ble_eq_true rfl) ⟨⟨rfl, rfl, .inl rfl⟩, ⟨⟨rfl, rfl, .inl rfl⟩, ⟨⟨rfl, rfl, .inr rfl⟩, ⟨⟨rfl, rfl, .inl rfl⟩, trivial⟩⟩⟩⟩ rfl ?_
  refine kz_goto (M := kt_M580) kX13_typeMessage_c6.2.2.2.2.2.2.1 (t := 6) rfl ?_
  exact kz_weak [(0, .ref (w_adr E.2.1 12 0)), (1, .int x1), (4, .int x4), (5, .int y0), (6, .int x6)] ⟨rfl, ⟨rfl, ⟨rfl, ⟨rfl, ⟨rfl, trivial⟩⟩⟩⟩⟩ rfl h
def zb_X13_typeMessage_p79 (E : zE) (L : Nat) (Q : kx_Rs → wS → Prop) (x1 : Int32) (x4 : Int32) (x5 : Int32) (x6 : Int32) (w : wS) : Prop := (kx_inb x6 (w_n w 12 0 32) = true ∧ (if ¬ x5 = (-2) then (kx_inb x5 (w_n w 12 0 32) = true ∧ zb_X13_typeMessage_p106 E L Q x1 x4 (w_a w 12 0 32 (x6).toNatClampNeg) (w_a w 12 0 32 (x5).toNatClampNeg) w) else zb_X13_typeMessage_p106 E L Q x1 x4 (w_a w 12 0 32 (x6).toNatClampNeg) (-1) w))
theorem zt_X13_typeMessage_p79 {E : zE} {L : Nat} {Q : kx_Rs → wS → Prop} {x1 : Int32} {x4 : Int32} {x5 : Int32} {x6 : Int32} {w : wS} (hL : 23 ≤ L) (h : zb_X13_typeMessage_p79 E L Q x1 x4 x5 x6 w) : kzE E L kt_M580 79 [(0, .ref (w_adr E.2.1 12 0)), (1, .int x1), (4, .int x4), (5, .int x5), (6, .int x6)] [] w Q := by
  unfold zb_X13_typeMessage_p79 at h
  refine kz_aload_n (M := kt_M580) kX13_typeMessage_c4.2.2.2.2.2.2.2.1 rfl ?_
  refine kz_gfc (M := kt_M580) (x := 4104) (c := 12) (o := 0) kX13_typeMessage_c5.1 wf_X13_205 (.inl rfl) ?_
  refine kz_iload (M := kt_M580) kX13_typeMessage_c5.2.1 rfl ?_
  refine kz_iald (M := kt_M580) (c := 12) (o := 0) (k := 32) (a := (E.2.1 4104)) kX13_typeMessage_c5.2.2.1 ow_12_0_32 oa_12_0_32 ot_0 h (fun h => ?_)
  refine kz_sti (M := kt_M580) [(0, .ref (w_adr E.2.1 12 0)), (1, .int x1), (4, .int x4), (5, .int x5)] kX13_typeMessage_c5.2.2.2.1 (Nat.le_of_ble_eq_true rfl) ⟨⟨rfl, rfl, .inl rfl⟩, ⟨⟨rfl, rfl, .inl rfl⟩, ⟨⟨rfl, rfl, .inl rfl⟩, ⟨⟨rfl, rfl, .inr rfl⟩, trivial⟩⟩⟩⟩ rfl ?_
  refine kz_iload (M := kt_M580) kX13_typeMessage_c5.2.2.2.2.1 rfl ?_
  refine kz_bi (M := kt_M580) (-2) kX13_typeMessage_c5.2.2.2.2.2.1 rfl ?_
  refine kz_icmp_ne (M := kt_M580) kX13_typeMessage_c5.2.2.2.2.2.2.1 (t := 99) rfl h (fun h => ?_) (fun h => ?_)
  · skip
    refine kz_aload_n (M := kt_M580) kX13_typeMessage_c6.2.1 rfl ?_
    refine kz_gfc (M := kt_M580) (x := 4104) (c := 12) (o := 0) kX13_typeMessage_c6.2.2.1 wf_X13_205 (.inl rfl) ?_
    refine kz_iload (M := kt_M580) kX13_typeMessage_c6.2.2.2.1 rfl ?_
    refine kz_iald (M := kt_M580) (c := 12) (o := 0) (k := 32) (a := (E.2.1 4104)) kX13_typeMessage_c6.2.2.2.2.1 ow_12_0_32 oa_12_0_32 ot_0 h (fun h => ?_)
    exact kz_weak [(0, .ref (w_adr E.2.1 12 0)), (1, .int x1), (4, .int x4), (6, .int (w_a w 12 0 32 (x6).toNatClampNeg))] ⟨rfl, ⟨rfl, ⟨rfl, ⟨rfl, trivial⟩⟩⟩⟩ rfl (zt_X13_typeMessage_p106 hL  h)
  · skip
    refine kz_ic (M := kt_M580) (-1) kX13_typeMessage_c5.2.2.2.2.2.2.2.1 rfl ?_
    refine kz_goto (M := kt_M580) kX13_typeMessage_c6.1 (t := 106) rfl ?_
    exact kz_weak [(0, .ref (w_adr E.2.1 12 0)), (1, .int x1), (4, .int x4), (6, .int (w_a w 12 0 32 (x6).toNatClampNeg))] ⟨rfl, ⟨rfl, ⟨rfl, ⟨rfl, trivial⟩⟩⟩⟩ rfl (zt_X13_typeMessage_p106 hL  h)
def zb_X13_typeMessage_p66 (E : zE) (L : Nat) (Q : kx_Rs → wS → Prop) (x1 : Int32) (x4 : Int32) (x5 : Int32) (x6 : Int32) (w : wS) : Prop := (kx_inb x6 (w_n w 12 0 27) = true ∧ zw E (L - 22) kt_M560 [.ref (w_adr E.2.1 12 0), .int 7, .int (w_a w 12 0 27 (x6).toNatClampNeg)] w (wk0 (fun w1 => wle w w1 → zb_X13_typeMessage_p79 E L Q x1 x4 x5 x6 w1) (fun e w => Q (.inr e) w)))
theorem zt_X13_typeMessage_p66 {E : zE} {L : Nat} {Q : kx_Rs → wS → Prop} {x1 : Int32} {x4 : Int32} {x5 : Int32} {x6 : Int32} {w : wS} (hL : 23 ≤ L) (h : zb_X13_typeMessage_p66 E L Q x1 x4 x5 x6 w) : kzE E L kt_M580 66 [(0, .ref (w_adr E.2.1 12 0)), (1, .int x1), (4, .int x4), (5, .int x5), (6, .int x6)] [] w Q := by
  unfold zb_X13_typeMessage_p66 at h
  refine kz_aload_n (M := kt_M580) kX13_typeMessage_c4.1 rfl ?_
  refine kz_bi (M := kt_M580) 7 kX13_typeMessage_c4.2.1 rfl ?_
  refine kz_aload_n (M := kt_M580) kX13_typeMessage_c4.2.2.1 rfl ?_
  refine kz_gfc (M := kt_M580) (x := 4099) (c := 12) (o := 0) kX13_typeMessage_c4.2.2.2.1 wf_X13_190 (.inl rfl) ?_
  refine kz_iload (M := kt_M580) kX13_typeMessage_c4.2.2.2.2.1 rfl ?_
  refine kz_iald (M := kt_M580) (c := 12) (o := 0) (k := 27) (a := (E.2.1 4099)) kX13_typeMessage_c4.2.2.2.2.2.1 ow_12_0_27 oa_12_0_27 ot_0 h (fun h => ?_)
  refine kz_cv0 (M := kt_M580) (c := 12) (o := 0) (As := [.int 7, .int (w_a w 12 0 27 (x6).toNatClampNeg)]) (rest := []) kX13_typeMessage_c4.2.2.2.2.2.2.1 wl_X13_734 wMv_560 rfl (.inl rfl) rfl (Nat.le_trans (Nat.le_of_ble_eq_true rfl) hL) (Nat.le_of_ble_eq_true rfl) (Nat.le_of_ble_eq_true rfl) h (fun w1 hle h => ?_) (fun _ _ _ h => kzx_no rfl h)
  have h := h hle
  exact kz_weak [(0, .ref (w_adr E.2.1 12 0)), (1, .int x1), (4, .int x4), (5, .int x5), (6, .int x6)] ⟨rfl, ⟨rfl, ⟨rfl, ⟨rfl, ⟨rfl, trivial⟩⟩⟩⟩⟩ rfl (zt_X13_typeMessage_p79 hL  h)
def zb_X13_typeMessage_p6 (E : zE) (L : Nat) (Q : kx_Rs → wS → Prop) (x1 : Int32) (x4 : Int32) (x5 : Int32) (x6 : Int32) (w : wS) : Prop := (if x6 < 0 then zb_X13_typeMessage_p111 E L Q x1 x5 x6 w else (if x5 = (-1) then zb_X13_typeMessage_p111 E L Q x1 x5 x6 w else zw E (L - 22) kt_M506 [.ref (w_adr E.2.1 12 0), .int x5, .int x4] w (wk1 (fun v2 w1 => wle w w1 → zw E (L - 23) kt_M576 [.ref (w_adr E.2.1 12 0), .int x6] w1 (wk1 (fun v4 w3 => wle w1 w3 → (if v4 = (-1) then zb_X13_typeMessage_p79 E L Q x1 x4 x5 x6 w3 else (if ¬ v4 = v2 then zb_X13_typeMessage_p66 E L Q x1 x4 x5 x6 w3 else zw E (L - 21) kt_M528 [.int (w_i w3 12 0 73), .int (w_i w1 12 0 73)] w3 (wk1 (fun v6 w5 => wle w3 w5 → (if ¬ v6 = 0 then zb_X13_typeMessage_p79 E L Q x1 x4 x5 x6 w5 else zb_X13_typeMessage_p66 E L Q x1 x4 x5 x6 w5)) (fun e w => Q (.inr e) w))))) (fun e w => Q (.inr e) w))) (fun e w => Q (.inr e) w))))
theorem zt_X13_typeMessage_p6 {E : zE} {L : Nat} {Q : kx_Rs → wS → Prop} {x1 : Int32} {x4 : Int32} {x5 : Int32} {x6 : Int32} {w : wS} (hL : 23 ≤ L) (h : zb_X13_typeMessage_p6 E L Q x1 x4 x5 x6 w) : kzE E L kt_M580 6 [(0, .ref (w_adr E.2.1 12 0)), (1, .int x1), (4, .int x4), (5, .int x5), (6, .int x6)] [] w Q := by
  unfold zb_X13_typeMessage_p6 at h
  refine kz_iload (M := kt_M580) kX13_typeMessage_c0.2.2.2.2.1 rfl ?_
  refine kz_if_lt (M := kt_M580) kX13_typeMessage_c0.2.2.2.2.2.1 (t := 111) rfl h (fun h => ?_) (fun h => ?_)
  · skip
    exact kz_weak [(0, .ref (w_adr E.2.1 12 0)), (1, .int x1), (5, .int x5), (6, .int x6)] ⟨rfl, ⟨rfl, ⟨rfl, ⟨rfl, trivial⟩⟩⟩⟩ rfl (zt_X13_typeMessage_p111 hL  h)
  · skip
    refine kz_iload (M := kt_M580) kX13_typeMessage_c0.2.2.2.2.2.2.1 rfl ?_
    refine kz_ic (M := kt_M580) (-1) kX13_typeMessage_c0.2.2.2.2.2.2.2.1 rfl ?_
    refine kz_icmp_eq (M := kt_M580) kX13_typeMessage_c1.1 (t := 111) rfl h (fun h => ?_) (fun h => ?_)
    · skip
      exact kz_weak [(0, .ref (w_adr E.2.1 12 0)), (1, .int x1), (5, .int x5), (6, .int x6)] ⟨rfl, ⟨rfl, ⟨rfl, ⟨rfl, trivial⟩⟩⟩⟩ rfl (zt_X13_typeMessage_p111 hL  h)
    · skip
      refine kz_aload_n (M := kt_M580) kX13_typeMessage_c1.2.1 rfl ?_
      refine kz_iload (M := kt_M580) kX13_typeMessage_c1.2.2.1 rfl ?_
      refine kz_iload (M := kt_M580) kX13_typeMessage_c1.2.2.2.1 rfl ?_
      refine kz_cv1 (M := kt_M580) (c := 12) (o := 0) (As := [.int x5, .int x4]) (rest := []) kX13_typeMessage_c1.2.2.2.2.1 wl_X13_895 wMv_506 rfl (.inl rfl) rfl (Nat.le_trans (Nat.le_of_ble_eq_true rfl) hL) (Nat.le_of_ble_eq_true rfl) (Nat.le_of_ble_eq_true rfl) h (fun v2 w1 hle h => ?_) (fun _ _ _ h => kzx_no rfl h)
      have h := h hle
      refine kz_sti (M := kt_M580) [(0, .ref (w_adr E.2.1 12 0)), (1, .int x1), (4, .int x4), (5, .int x5), (6, .int x6)] kX13_typeMessage_c1.2.2.2.2.2.1 (Nat.le_of_ble_eq_true rfl) ⟨⟨rfl, rfl, .inl rfl⟩, ⟨⟨rfl, rfl, .inl rfl⟩, ⟨⟨rfl, rfl, .inl rfl⟩, ⟨⟨rfl, rfl, .inl rfl⟩, ⟨⟨rfl, rfl, .inr rfl⟩, trivial⟩⟩⟩⟩⟩ rfl ?_
      refine kz_aload_n (M := kt_M580) kX13_typeMessage_c1.2.2.2.2.2.2.1 rfl ?_
      refine kz_gfi (M := kt_M580) (c := 12) (o := 0) kX13_typeMessage_c1.2.2.2.2.2.2.2.1 wf_X13_859 (.inl rfl) ?_
      refine kz_sti (M := kt_M580) [(0, .ref (w_adr E.2.1 12 0)), (1, .int x1), (4, .int x4), (5, .int x5), (6, .int x6), (7, .int v2)] kX13_typeMessage_c2.1 (Nat.le_of_ble_eq_true rfl) ⟨⟨rfl, rfl, .inl rfl⟩, ⟨⟨rfl, rfl, .inl rfl⟩, ⟨⟨rfl, rfl, .inl rfl⟩, ⟨⟨rfl, rfl, .inl rfl⟩, ⟨⟨rfl, rfl, .inl rfl⟩, ⟨⟨rfl, rfl, .inr rfl⟩, trivial⟩⟩⟩⟩⟩⟩ rfl ?_
      refine kz_aload_n (M := kt_M580) kX13_typeMessage_c2.2.1 rfl ?_
      refine kz_iload (M := kt_M580) kX13_typeMessage_c2.2.2.1 rfl ?_
      refine kz_cv1 (M := kt_M580) (c := 12) (o := 0) (As := [.int x6]) (rest := []) kX13_typeMessage_c2.2.2.2.1 wl_X13_853 wMv_576 rfl (.inl rfl) rfl (Nat.le_trans (Nat.le_of_ble_eq_true rfl) hL) (Nat.le_of_ble_eq_true rfl) (Nat.le_of_ble_eq_true rfl) h (fun v4 w3 hle h => ?_) (fun _ _ _ h => kzx_no rfl h)
      have h := h hle
      refine kz_sti (M := kt_M580) [(0, .ref (w_adr E.2.1 12 0)), (1, .int x1), (4, .int x4), (5, .int x5), (6, .int x6), (7, .int v2), (8, .int (w_i w1 12 0 73))] kX13_typeMessage_c2.2.2.2.2.1 (Nat.le_of_ble_eq_true rfl) ⟨⟨rfl, rfl, .inl rfl⟩, ⟨⟨rfl, rfl, .inl rfl⟩, ⟨⟨rfl, rfl, .inl rfl⟩, ⟨⟨rfl, rfl, .inl rfl⟩, ⟨⟨rfl, rfl, .inl rfl⟩, ⟨⟨rfl, rfl, .inl rfl⟩, ⟨⟨rfl, rfl, .inr rfl⟩, trivial⟩⟩⟩⟩⟩⟩⟩ rfl ?_
      refine kz_iload (M := kt_M580) kX13_typeMessage_c2.2.2.2.2.2.1 rfl ?_
      refine kz_ic (M := kt_M580) (-1) kX13_typeMessage_c2.2.2.2.2.2.2.1 rfl ?_
      refine kz_icmp_eq (M := kt_M580) kX13_typeMessage_c2.2.2.2.2.2.2.2.1 (t := 79) rfl h (fun h => ?_) (fun h => ?_)
      · skip
        exact kz_weak [(0, .ref (w_adr E.2.1 12 0)), (1, .int x1), (4, .int x4), (5, .int x5), (6, .int x6)] ⟨rfl, ⟨rfl, ⟨rfl, ⟨rfl, ⟨rfl, trivial⟩⟩⟩⟩⟩ rfl (zt_X13_typeMessage_p79 hL  h)
      · skip
        refine kz_iload (M := kt_M580) kX13_typeMessage_c3.1 rfl ?_
        refine kz_iload (M := kt_M580) kX13_typeMessage_c3.2.1 rfl ?_
        refine kz_icmp_ne (M := kt_M580) kX13_typeMessage_c3.2.2.1 (t := 66) rfl h (fun h => ?_) (fun h => ?_)
        · skip
          exact kz_weak [(0, .ref (w_adr E.2.1 12 0)), (1, .int x1), (4, .int x4), (5, .int x5), (6, .int x6)] ⟨rfl, ⟨rfl, ⟨rfl, ⟨rfl, ⟨rfl, trivial⟩⟩⟩⟩⟩ rfl (zt_X13_typeMessage_p66 hL  h)
        · skip
          refine kz_aload_n (M := kt_M580) kX13_typeMessage_c3.2.2.2.1 rfl ?_
          refine kz_gfi (M := kt_M580) (c := 12) (o := 0) kX13_typeMessage_c3.2.2.2.2.1 wf_X13_859 (.inl rfl) ?_
          refine kz_iload (M := kt_M580) kX13_typeMessage_c3.2.2.2.2.2.1 rfl ?_
          refine kz_cs1 (M := kt_M580) (As := [.int (w_i w3 12 0 73), .int (w_i w1 12 0 73)]) (rest := []) kX13_typeMessage_c3.2.2.2.2.2.2.1 wl_X13_898 wMs_528 rfl (Nat.le_trans (Nat.le_of_ble_eq_true rfl) hL) (Nat.le_of_ble_eq_true rfl) (Nat.le_of_ble_eq_true rfl) h (fun v6 w5 hle h => ?_) (fun _ _ _ h => kzx_no rfl h)
          have h := h hle
          refine kz_if_ne (M := kt_M580) kX13_typeMessage_c3.2.2.2.2.2.2.2.1 (t := 79) rfl h (fun h => ?_) (fun h => ?_)
          · skip
            exact kz_weak [(0, .ref (w_adr E.2.1 12 0)), (1, .int x1), (4, .int x4), (5, .int x5), (6, .int x6)] ⟨rfl, ⟨rfl, ⟨rfl, ⟨rfl, ⟨rfl, trivial⟩⟩⟩⟩⟩ rfl (zt_X13_typeMessage_p79 hL  h)
          · skip
            exact kz_weak [(0, .ref (w_adr E.2.1 12 0)), (1, .int x1), (4, .int x4), (5, .int x5), (6, .int x6)] ⟨rfl, ⟨rfl, ⟨rfl, ⟨rfl, ⟨rfl, trivial⟩⟩⟩⟩⟩ rfl (zt_X13_typeMessage_p66 hL  h)
def zb_X13_typeMessage_p0 (E : zE) (L : Nat) (Q : kx_Rs → wS → Prop) (x1 : Int32) (x2 : Int32) (x3 : Int32) (x4 : Int32) (w : wS) : Prop := zL_X13_typeMessage_p6 E L Q x1 x4 x3 x2 w
theorem zt_X13_typeMessage_p0 {E : zE} {L : Nat} {Q : kx_Rs → wS → Prop} {x1 : Int32} {x2 : Int32} {x3 : Int32} {x4 : Int32} {w : wS} (hL : 23 ≤ L) (h : zb_X13_typeMessage_p0 E L Q x1 x2 x3 x4 w) : kzE E L kt_M580 0 [(0, .ref (w_adr E.2.1 12 0)), (1, .int x1), (2, .int x2), (3, .int x3), (4, .int x4)] [] w Q := by
  unfold zb_X13_typeMessage_p0 at h
  refine kz_iload_n (M := kt_M580) kX13_typeMessage_c0.1 rfl ?_
  refine kz_sti (M := kt_M580) [(0, .ref (w_adr E.2.1 12 0)), (1, .int x1), (2, .int x2), (4, .int x4)] kX13_typeMessage_c0.2.1 (Nat.le_of_ble_eq_true rfl) ⟨⟨rfl, rfl, .inl rfl⟩, ⟨⟨rfl, rfl, .inl rfl⟩, ⟨⟨rfl, rfl, .inl rfl⟩, ⟨⟨rfl, rfl, .inr rfl⟩, trivial⟩⟩⟩⟩ rfl ?_
  refine kz_iload_n (M := kt_M580) kX13_typeMessage_c0.2.2.1 rfl ?_
  refine kz_sti (M := kt_M580) [(0, .ref (w_adr E.2.1 12 0)), (1, .int x1), (4, .int x4), (5, .int x3)] kX13_typeMessage_c0.2.2.2.1 (Nat.le_of_ble_eq_true rfl) ⟨⟨rfl, rfl, .inl rfl⟩, ⟨⟨rfl, rfl, .inl rfl⟩, ⟨⟨rfl, rfl, .inl rfl⟩, ⟨⟨rfl, rfl, .inr rfl⟩, trivial⟩⟩⟩⟩ rfl ?_
  exact kz_weak [(0, .ref (w_adr E.2.1 12 0)), (1, .int x1), (4, .int x4), (5, .int x3), (6, .int x2)] ⟨rfl, ⟨rfl, ⟨rfl, ⟨rfl, ⟨rfl, trivial⟩⟩⟩⟩⟩ rfl h
def zb_X13_partType_p38 (E : zE) (L : Nat) (Q : kx_Rs → wS → Prop) (y0 : Int32) (y1 : Int32) (w : wS) : Prop := zw E (L - 22) kt_M435 [.ref (w_adr E.2.1 12 0), .int y1, .int y0] w (wk1 (fun v2 w1 => wle w w1 → Q (.inl (some (.int v2))) w1) (fun e w => Q (.inr e) w))
theorem zt_X13_partType_p38 {E : zE} {L : Nat} {Q : kx_Rs → wS → Prop} {y0 : Int32} {y1 : Int32} {w : wS} (hL : 22 ≤ L) (h : zb_X13_partType_p38 E L Q y0 y1 w) : kzE E L kt_M506 38 [(0, .ref (w_adr E.2.1 12 0))] [.int y0, .int y1, .ref (w_adr E.2.1 12 0)] w Q := by
  unfold zb_X13_partType_p38 at h
  refine kz_cv1 (M := kt_M506) (c := 12) (o := 0) (As := [.int y1, .int y0]) (rest := []) kX13_partType_c2.2.2.2.2.2.2.2.1 wl_X13_865 wMv_435 rfl (.inl rfl) rfl (Nat.le_trans (Nat.le_of_ble_eq_true rfl) hL) (Nat.le_of_ble_eq_true rfl) (Nat.le_of_ble_eq_true rfl) h (fun v2 w1 hle h => ?_) (fun _ _ _ h => kzx_no rfl h)
  have h := h hle
  exact kz_iret (M := kt_M506) kX13_partType_c3.1 rfl rfl h
def zb_X13_partType_p0 (E : zE) (L : Nat) (Q : kx_Rs → wS → Prop) (x1 : Int32) (x2 : Int32) (w : wS) : Prop := (if ¬ x1 = (-2) then (kx_inb x1 (w_n w 12 0 33) = true ∧ (kx_inb x1 (w_n w 12 0 28) = true ∧ (if 0 ≤ w_a w 12 0 28 (x1).toNatClampNeg then zw E (L - 21) kt_M504 [.ref (w_adr E.2.1 12 0), .int x1] w (wk1 (fun v2 w1 => wle w w1 → zb_X13_partType_p38 E L Q v2 (w_a w 12 0 33 (x1).toNatClampNeg) w1) (fun e w => Q (.inr e) w)) else zb_X13_partType_p38 E L Q (-1) (w_a w 12 0 33 (x1).toNatClampNeg) w))) else zw E (L - 22) kt_M435 [.ref (w_adr E.2.1 12 0), .int x2, .int (-1)] w (wk1 (fun v4 w3 => wle w w3 → Q (.inl (some (.int v4))) w3) (fun e w => Q (.inr e) w)))
theorem zt_X13_partType_p0 {E : zE} {L : Nat} {Q : kx_Rs → wS → Prop} {x1 : Int32} {x2 : Int32} {w : wS} (hL : 22 ≤ L) (h : zb_X13_partType_p0 E L Q x1 x2 w) : kzE E L kt_M506 0 [(0, .ref (w_adr E.2.1 12 0)), (1, .int x1), (2, .int x2)] [] w Q := by
  unfold zb_X13_partType_p0 at h
  refine kz_iload_n (M := kt_M506) kX13_partType_c0.1 rfl ?_
  refine kz_bi (M := kt_M506) (-2) kX13_partType_c0.2.1 rfl ?_
  refine kz_icmp_ne (M := kt_M506) kX13_partType_c0.2.2.1 (t := 13) rfl h (fun h => ?_) (fun h => ?_)
  · skip
    refine kz_aload_n (M := kt_M506) kX13_partType_c1.1 rfl ?_
    refine kz_aload_n (M := kt_M506) kX13_partType_c1.2.1 rfl ?_
    refine kz_gfc (M := kt_M506) (x := 4105) (c := 12) (o := 0) kX13_partType_c1.2.2.1 wf_X13_208 (.inl rfl) ?_
    refine kz_iload_n (M := kt_M506) kX13_partType_c1.2.2.2.1 rfl ?_
    refine kz_iald (M := kt_M506) (c := 12) (o := 0) (k := 33) (a := (E.2.1 4105)) kX13_partType_c1.2.2.2.2.1 ow_12_0_33 oa_12_0_33 ot_0 h (fun h => ?_)
    refine kz_aload_n (M := kt_M506) kX13_partType_c1.2.2.2.2.2.1 rfl ?_
    refine kz_gfc (M := kt_M506) (x := 4100) (c := 12) (o := 0) kX13_partType_c1.2.2.2.2.2.2.1 wf_X13_193 (.inl rfl) ?_
    refine kz_iload_n (M := kt_M506) kX13_partType_c1.2.2.2.2.2.2.2.1 rfl ?_
    refine kz_iald (M := kt_M506) (c := 12) (o := 0) (k := 28) (a := (E.2.1 4100)) kX13_partType_c2.1 ow_12_0_28 oa_12_0_28 ot_0 h (fun h => ?_)
    refine kz_if_ge (M := kt_M506) kX13_partType_c2.2.1 (t := 33) rfl h (fun h => ?_) (fun h => ?_)
    · skip
      refine kz_aload_n (M := kt_M506) kX13_partType_c2.2.2.2.2.1 rfl ?_
      refine kz_iload_n (M := kt_M506) kX13_partType_c2.2.2.2.2.2.1 rfl ?_
      refine kz_cv1 (M := kt_M506) (c := 12) (o := 0) (As := [.int x1]) (rest := [.int (w_a w 12 0 33 (x1).toNatClampNeg), .ref (w_adr E.2.1 12 0)]) kX13_partType_c2.2.2.2.2.2.2.1 wl_X13_892 wMv_504 rfl (.inl rfl) rfl (Nat.le_trans (Nat.le_of_ble_eq_true rfl) hL) (Nat.le_of_ble_eq_true rfl) (Nat.le_of_ble_eq_true rfl) h (fun v2 w1 hle h => ?_) (fun _ _ _ h => kzx_no rfl h)
      have h := h hle
      exact kz_weak [(0, .ref (w_adr E.2.1 12 0))] ⟨rfl, trivial⟩ rfl (zt_X13_partType_p38 hL  h)
    · skip
      refine kz_ic (M := kt_M506) (-1) kX13_partType_c2.2.2.1 rfl ?_
      refine kz_goto (M := kt_M506) kX13_partType_c2.2.2.2.1 (t := 38) rfl ?_
      exact kz_weak [(0, .ref (w_adr E.2.1 12 0))] ⟨rfl, trivial⟩ rfl (zt_X13_partType_p38 hL  h)
  · skip
    refine kz_aload_n (M := kt_M506) kX13_partType_c0.2.2.2.1 rfl ?_
    refine kz_iload_n (M := kt_M506) kX13_partType_c0.2.2.2.2.1 rfl ?_
    refine kz_ic (M := kt_M506) (-1) kX13_partType_c0.2.2.2.2.2.1 rfl ?_
    refine kz_cv1 (M := kt_M506) (c := 12) (o := 0) (As := [.int x2, .int (-1)]) (rest := []) kX13_partType_c0.2.2.2.2.2.2.1 wl_X13_865 wMv_435 rfl (.inl rfl) rfl (Nat.le_trans (Nat.le_of_ble_eq_true rfl) hL) (Nat.le_of_ble_eq_true rfl) (Nat.le_of_ble_eq_true rfl) h (fun v4 w3 hle h => ?_) (fun _ _ _ h => kzx_no rfl h)
    have h := h hle
    exact kz_iret (M := kt_M506) kX13_partType_c0.2.2.2.2.2.2.2.1 rfl rfl h
def zb_X13_partMany_p35 (E : zE) (L : Nat) (Q : kx_Rs → wS → Prop) (y0 : Int32) (w : wS) : Prop := Q (.inl (some (.int y0))) w
theorem zt_X13_partMany_p35 {E : zE} {L : Nat} {Q : kx_Rs → wS → Prop} {y0 : Int32} {w : wS} (hL : 23 ≤ L) (h : zb_X13_partMany_p35 E L Q y0 w) : kzE E L kt_M504 35 [(0, .ref (w_adr E.2.1 12 0))] [.int y0] w Q := by
  unfold zb_X13_partMany_p35 at h
  exact kz_iret (M := kt_M504) kX13_partMany_c2.2.2.1 rfl rfl h
def zb_X13_partMany_p33 (E : zE) (L : Nat) (Q : kx_Rs → wS → Prop) (w : wS) : Prop := zb_X13_partMany_p35 E L Q (-2) w
theorem zt_X13_partMany_p33 {E : zE} {L : Nat} {Q : kx_Rs → wS → Prop} {w : wS} (hL : 23 ≤ L) (h : zb_X13_partMany_p33 E L Q  w) : kzE E L kt_M504 33 [(0, .ref (w_adr E.2.1 12 0))] [] w Q := by
  unfold zb_X13_partMany_p33 at h
  refine kz_bi (M := kt_M504) (-2) kX13_partMany_c2.2.1 rfl ?_
  exact kz_weak [(0, .ref (w_adr E.2.1 12 0))] ⟨rfl, trivial⟩ rfl (zt_X13_partMany_p35 hL  h)
def zb_X13_partMany_p0 (E : zE) (L : Nat) (Q : kx_Rs → wS → Prop) (x1 : Int32) (w : wS) : Prop := (kx_inb x1 (w_n w 12 0 28) = true ∧ zw E (L - 23) kt_M440 [.ref (w_adr E.2.1 12 0), .int (w_a w 12 0 28 (x1).toNatClampNeg)] w (wk1 (fun v2 w1 => wle w w1 → (if v2 = 0 then zb_X13_partMany_p33 E L Q w1 else (kx_inb x1 (w_n w1 12 0 28) = true ∧ zw E (L - 23) kt_M428 [.ref (w_adr E.2.1 12 0), .int (w_a w1 12 0 28 (x1).toNatClampNeg)] w1 (wk1 (fun v4 w3 => wle w1 w3 → (if v4 = 0 then zb_X13_partMany_p33 E L Q w3 else zb_X13_partMany_p35 E L Q (w_i w3 12 0 24) w3)) (fun e w => Q (.inr e) w))))) (fun e w => Q (.inr e) w)))
theorem zt_X13_partMany_p0 {E : zE} {L : Nat} {Q : kx_Rs → wS → Prop} {x1 : Int32} {w : wS} (hL : 23 ≤ L) (h : zb_X13_partMany_p0 E L Q x1 w) : kzE E L kt_M504 0 [(0, .ref (w_adr E.2.1 12 0)), (1, .int x1)] [] w Q := by
  unfold zb_X13_partMany_p0 at h
  refine kz_aload_n (M := kt_M504) kX13_partMany_c0.1 rfl ?_
  refine kz_aload_n (M := kt_M504) kX13_partMany_c0.2.1 rfl ?_
  refine kz_gfc (M := kt_M504) (x := 4100) (c := 12) (o := 0) kX13_partMany_c0.2.2.1 wf_X13_193 (.inl rfl) ?_
  refine kz_iload_n (M := kt_M504) kX13_partMany_c0.2.2.2.1 rfl ?_
  refine kz_iald (M := kt_M504) (c := 12) (o := 0) (k := 28) (a := (E.2.1 4100)) kX13_partMany_c0.2.2.2.2.1 ow_12_0_28 oa_12_0_28 ot_0 h (fun h => ?_)
  refine kz_cv1 (M := kt_M504) (c := 12) (o := 0) (As := [.int (w_a w 12 0 28 (x1).toNatClampNeg)]) (rest := []) kX13_partMany_c0.2.2.2.2.2.1 wl_X13_816 wMv_440 rfl (.inl rfl) rfl (Nat.le_trans (Nat.le_of_ble_eq_true rfl) hL) (Nat.le_of_ble_eq_true rfl) (Nat.le_of_ble_eq_true rfl) h (fun v2 w1 hle h => ?_) (fun _ _ _ h => kzx_no rfl h)
  have h := h hle
  refine kz_if_eq (M := kt_M504) kX13_partMany_c0.2.2.2.2.2.2.1 (t := 33) rfl h (fun h => ?_) (fun h => ?_)
  · skip
    exact kz_weak [(0, .ref (w_adr E.2.1 12 0))] ⟨rfl, trivial⟩ rfl (zt_X13_partMany_p33 hL  h)
  · skip
    refine kz_aload_n (M := kt_M504) kX13_partMany_c0.2.2.2.2.2.2.2.1 rfl ?_
    refine kz_aload_n (M := kt_M504) kX13_partMany_c1.1 rfl ?_
    refine kz_gfc (M := kt_M504) (x := 4100) (c := 12) (o := 0) kX13_partMany_c1.2.1 wf_X13_193 (.inl rfl) ?_
    refine kz_iload_n (M := kt_M504) kX13_partMany_c1.2.2.1 rfl ?_
    refine kz_iald (M := kt_M504) (c := 12) (o := 0) (k := 28) (a := (E.2.1 4100)) kX13_partMany_c1.2.2.2.1 ow_12_0_28 oa_12_0_28 ot_0 h (fun h => ?_)
    refine kz_cv1 (M := kt_M504) (c := 12) (o := 0) (As := [.int (w_a w1 12 0 28 (x1).toNatClampNeg)]) (rest := []) kX13_partMany_c1.2.2.2.2.1 wl_X13_846 wMv_428 rfl (.inl rfl) rfl (Nat.le_trans (Nat.le_of_ble_eq_true rfl) hL) (Nat.le_of_ble_eq_true rfl) (Nat.le_of_ble_eq_true rfl) h (fun v4 w3 hle h => ?_) (fun _ _ _ h => kzx_no rfl h)
    have h := h hle
    refine kz_if_eq (M := kt_M504) kX13_partMany_c1.2.2.2.2.2.1 (t := 33) rfl h (fun h => ?_) (fun h => ?_)
    · skip
      exact kz_weak [(0, .ref (w_adr E.2.1 12 0))] ⟨rfl, trivial⟩ rfl (zt_X13_partMany_p33 hL  h)
    · skip
      refine kz_aload_n (M := kt_M504) kX13_partMany_c1.2.2.2.2.2.2.1 rfl ?_
      refine kz_gfi (M := kt_M504) (c := 12) (o := 0) kX13_partMany_c1.2.2.2.2.2.2.2.1 wf_X13_493 (.inl rfl) ?_
      refine kz_goto (M := kt_M504) kX13_partMany_c2.1 (t := 35) rfl ?_
      exact kz_weak [(0, .ref (w_adr E.2.1 12 0))] ⟨rfl, trivial⟩ rfl (zt_X13_partMany_p35 hL  h)
def zL_X13_typeInCase_p117 (E : zE) (L : Nat) (Q : kx_Rs → wS → Prop) (x1 : Int32) (x2 : Int32) (x3 : Int32) (x4 : Int32) (x5 : Int32) (x6 : Int32) (w : wS) : Prop := kzE E L kt_M579 117 [(0, .ref (w_adr E.2.1 12 0)), (1, .int x1), (2, .int x2), (3, .int x3), (4, .int x4), (5, .int x5), (6, .int x6)] [] w Q
def zL_X13_typeInCase_p57 (E : zE) (L : Nat) (Q : kx_Rs → wS → Prop) (x1 : Int32) (x2 : Int32) (x3 : Int32) (x4 : Int32) (w : wS) : Prop := kzE E L kt_M579 57 [(0, .ref (w_adr E.2.1 12 0)), (1, .int x1), (2, .int x2), (3, .int x3), (4, .int x4)] [] w Q
def zb_X13_typeInCase_p197 (E : zE) (L : Nat) (Q : kx_Rs → wS → Prop) (x1 : Int32) (x2 : Int32) (x3 : Int32) (x4 : Int32) (w : wS) : Prop := (kx_inb x4 (w_n w 12 0 30) = true ∧ zw E (L - 21) kt_M571 [.ref (w_adr E.2.1 12 0), .int (w_a w 12 0 30 (x4).toNatClampNeg)] w (wk0 (fun w1 => wle w w1 → (kx_inb x4 (w_n w1 12 0 32) = true ∧ zL_X13_typeInCase_p57 E L Q x1 x2 x3 (w_a w1 12 0 32 (x4).toNatClampNeg) w1)) (fun e w => Q (.inr e) w)))
theorem zt_X13_typeInCase_p197 {E : zE} {L : Nat} {Q : kx_Rs → wS → Prop} {x1 : Int32} {x2 : Int32} {x3 : Int32} {x4 : Int32} {w : wS} (hL : 29 ≤ L) (h : zb_X13_typeInCase_p197 E L Q x1 x2 x3 x4 w) : kzE E L kt_M579 197 [(0, .ref (w_adr E.2.1 12 0)), (1, .int x1), (2, .int x2), (3, .int x3), (4, .int x4)] [] w Q := by
  unfold zb_X13_typeInCase_p197 at h
  refine kz_aload_n (M := kt_M579) kX13_typeInCase_c13.2.2.1 rfl ?_
  refine kz_aload_n (M := kt_M579) kX13_typeInCase_c13.2.2.2.1 rfl ?_
  refine kz_gfc (M := kt_M579) (x := 4102) (c := 12) (o := 0) kX13_typeInCase_c13.2.2.2.2.1 wf_X13_199 (.inl rfl) ?_
  refine kz_iload (M := kt_M579) kX13_typeInCase_c13.2.2.2.2.2.1 rfl ?_
  refine kz_iald (M := kt_M579) (c := 12) (o := 0) (k := 30) (a := (E.2.1 4102)) kX13_typeInCase_c13.2.2.2.2.2.2.1 ow_12_0_30 oa_12_0_30 ot_0 h (fun h => ?_)
  refine kz_cv0 (M := kt_M579) (c := 12) (o := 0) (As := [.int (w_a w 12 0 30 (x4).toNatClampNeg)]) (rest := []) kX13_typeInCase_c13.2.2.2.2.2.2.2.1 wl_X13_910 wMv_571 rfl (.inl rfl) rfl (Nat.le_trans (Nat.le_of_ble_eq_true rfl) hL) (Nat.le_of_ble_eq_true rfl) (Nat.le_of_ble_eq_true rfl) h (fun w1 hle h => ?_) (fun _ _ _ h => kzx_no rfl h)
  have h := h hle
  refine kz_aload_n (M := kt_M579) kX13_typeInCase_c14.1 rfl ?_
  refine kz_gfc (M := kt_M579) (x := 4104) (c := 12) (o := 0) kX13_typeInCase_c14.2.1 wf_X13_205 (.inl rfl) ?_
  refine kz_iload (M := kt_M579) kX13_typeInCase_c14.2.2.1 rfl ?_
  refine kz_iald (M := kt_M579) (c := 12) (o := 0) (k := 32) (a := (E.2.1 4104)) kX13_typeInCase_c14.2.2.2.1 ow_12_0_32 oa_12_0_32 ot_0 h (fun h => ?_)
  refine kz_sti (M := kt_M579) [(0, .ref (w_adr E.2.1 12 0)), (1, .int x1), (2, .int x2), (3, .int x3)] kX13_typeInCase_c14.2.2.2.2.1 (Nat.le_of_ble_eq_true rfl) ⟨⟨rfl, rfl, .inl rfl⟩, ⟨⟨rfl, rfl, .inl rfl⟩, ⟨⟨rfl, rfl, .inl rfl⟩, ⟨⟨rfl, rfl, .inr rfl⟩, trivial⟩⟩⟩⟩ rfl ?_
  refine kz_goto (M := kt_M579) kX13_typeInCase_c14.2.2.2.2.2.1 (t := 57) rfl ?_
  exact kz_weak [(0, .ref (w_adr E.2.1 12 0)), (1, .int x1), (2, .int x2), (3, .int x3), (4, .int (w_a w1 12 0 32 (x4).toNatClampNeg))] ⟨rfl, ⟨rfl, ⟨rfl, ⟨rfl, ⟨rfl, trivial⟩⟩⟩⟩⟩ rfl h
def zb_X13_typeInCase_p154 (E : zE) (L : Nat) (Q : kx_Rs → wS → Prop) (x1 : Int32) (x2 : Int32) (x3 : Int32) (x4 : Int32) (x5 : Int32) (x6 : Int32) (w : wS) : Prop := (kx_inb x6 (w_n w 12 0 32) = true ∧ zL_X13_typeInCase_p117 E L Q x1 x2 x3 x4 x5 (w_a w 12 0 32 (x6).toNatClampNeg) w)
theorem zt_X13_typeInCase_p154 {E : zE} {L : Nat} {Q : kx_Rs → wS → Prop} {x1 : Int32} {x2 : Int32} {x3 : Int32} {x4 : Int32} {x5 : Int32} {x6 : Int32} {w : wS} (hL : 29 ≤ L) (h : zb_X13_typeInCase_p154 E L Q x1 x2 x3 x4 x5 x6 w) : kzE E L kt_M579 154 [(0, .ref (w_adr E.2.1 12 0)), (1, .int x1), (2, .int x2), (3, .int x3), (4, .int x4), (5, .int x5), (6, .int x6)] [] w Q := by
  unfold zb_X13_typeInCase_p154 at h
  refine kz_aload_n (M := kt_M579) kX13_typeInCase_c10.2.2.2.1 rfl ?_
  refine kz_gfc (M := kt_M579) (x := 4104) (c := 12) (o := 0) kX13_typeInCase_c10.2.2.2.2.1 wf_X13_205 (.inl rfl) ?_
  refine kz_iload (M := kt_M579) kX13_typeInCase_c10.2.2.2.2.2.1 rfl ?_
  refine kz_iald (M := kt_M579) (c := 12) (o := 0) (k := 32) (a := (E.2.1 4104)) kX13_typeInCase_c10.2.2.2.2.2.2.1 ow_12_0_32 oa_12_0_32 ot_0 h (fun h => ?_)
  refine kz_sti (M := kt_M579) [(0, .ref (w_adr E.2.1 12 0)), (1, .int x1), (2, .int x2), (3, .int x3), (4, .int x4), (5, .int x5)] kX13_typeInCase_c10.2.2.2.2.2.2.2.1 (Nat.le_of_ble_eq_true rfl) ⟨⟨rfl, rfl, .inl rfl⟩, ⟨⟨rfl, rfl, .inl rfl⟩, ⟨⟨rfl, rfl, .inl rfl⟩, ⟨⟨rfl, rfl, .inl rfl⟩, ⟨⟨rfl, rfl, .inl rfl⟩, ⟨⟨rfl, rfl, .inr rfl⟩, trivial⟩⟩⟩⟩⟩⟩ rfl ?_
  refine kz_goto (M := kt_M579) kX13_typeInCase_c11.1 (t := 117) rfl ?_
  exact kz_weak [(0, .ref (w_adr E.2.1 12 0)), (1, .int x1), (2, .int x2), (3, .int x3), (4, .int x4), (5, .int x5), (6, .int (w_a w 12 0 32 (x6).toNatClampNeg))] ⟨rfl, ⟨rfl, ⟨rfl, ⟨rfl, ⟨rfl, ⟨rfl, ⟨rfl, trivial⟩⟩⟩⟩⟩⟩⟩ rfl h
def zb_X13_typeInCase_p117 (E : zE) (L : Nat) (Q : kx_Rs → wS → Prop) (x1 : Int32) (x2 : Int32) (x3 : Int32) (x4 : Int32) (x5 : Int32) (x6 : Int32) (w : wS) : Prop := (if x6 = x4 then (if x5 < 0 then zb_X13_typeInCase_p197 E L Q x1 x2 x3 x4 w else (kx_inb x4 (w_n w 12 0 29) = true ∧ (kx_inb x5 (w_n w 12 0 49) = true ∧ (kx_inb (w_a w 12 0 49 (x5).toNatClampNeg) (w_n w 12 0 29) = true ∧ zw E (L - 29) kt_M580 [.ref (w_adr E.2.1 12 0), .int x4, .int (w_a w 12 0 29 (x4).toNatClampNeg), .int (w_a w 12 0 29 (w_a w 12 0 49 (x5).toNatClampNeg).toNatClampNeg), .int (-1)] w (wk0 (fun w1 => wle w w1 → zb_X13_typeInCase_p197 E L Q x1 x2 x3 x4 w1) (fun e w => Q (.inr e) w)))))) else (if x5 < 0 then zb_X13_typeInCase_p154 E L Q x1 x2 x3 x4 x5 x6 w else (kx_inb x6 (w_n w 12 0 31) = true ∧ (if ¬ w_a w 12 0 31 (x6).toNatClampNeg = x5 then zb_X13_typeInCase_p154 E L Q x1 x2 x3 x4 x5 x6 w else (kx_inb x4 (w_n w 12 0 27) = true ∧ zw E (L - 22) kt_M560 [.ref (w_adr E.2.1 12 0), .int 10, .int (w_a w 12 0 27 (x4).toNatClampNeg)] w (wk0 (fun w3 => wle w w3 → zb_X13_typeInCase_p154 E L Q x1 x2 x3 x4 x5 x6 w3) (fun e w => Q (.inr e) w)))))))
theorem zt_X13_typeInCase_p117 {E : zE} {L : Nat} {Q : kx_Rs → wS → Prop} {x1 : Int32} {x2 : Int32} {x3 : Int32} {x4 : Int32} {x5 : Int32} {x6 : Int32} {w : wS} (hL : 29 ≤ L) (h : zb_X13_typeInCase_p117 E L Q x1 x2 x3 x4 x5 x6 w) : kzE E L kt_M579 117 [(0, .ref (w_adr E.2.1 12 0)), (1, .int x1), (2, .int x2), (3, .int x3), (4, .int x4), (5, .int x5), (6, .int x6)] [] w Q := by
  unfold zb_X13_typeInCase_p117 at h
  refine kz_iload (M := kt_M579) kX13_typeInCase_c8.2.1 rfl ?_
  refine kz_iload (M := kt_M579) kX13_typeInCase_c8.2.2.1 rfl ?_
  refine kz_icmp_eq (M := kt_M579) kX13_typeInCase_c8.2.2.2.1 (t := 166) rfl h (fun h => ?_) (fun h => ?_)
  · skip
    refine kz_iload (M := kt_M579) kX13_typeInCase_c11.2.1 rfl ?_
    refine kz_if_lt (M := kt_M579) kX13_typeInCase_c11.2.2.1 (t := 197) rfl h (fun h => ?_) (fun h => ?_)
    · skip
      exact kz_weak [(0, .ref (w_adr E.2.1 12 0)), (1, .int x1), (2, .int x2), (3, .int x3), (4, .int x4)] ⟨rfl, ⟨rfl, ⟨rfl, ⟨rfl, ⟨rfl, trivial⟩⟩⟩⟩⟩ rfl (zt_X13_typeInCase_p197 hL  h)
    · skip
      refine kz_aload_n (M := kt_M579) kX13_typeInCase_c11.2.2.2.1 rfl ?_
      refine kz_iload (M := kt_M579) kX13_typeInCase_c11.2.2.2.2.1 rfl ?_
      refine kz_aload_n (M := kt_M579) kX13_typeInCase_c11.2.2.2.2.2.1 rfl ?_
      refine kz_gfc (M := kt_M579) (x := 4101) (c := 12) (o := 0) kX13_typeInCase_c11.2.2.2.2.2.2.1 wf_X13_196 (.inl rfl) ?_
      refine kz_iload (M := kt_M579) kX13_typeInCase_c11.2.2.2.2.2.2.2.1 rfl ?_
      refine kz_iald (M := kt_M579) (c := 12) (o := 0) (k := 29) (a := (E.2.1 4101)) kX13_typeInCase_c12.1 ow_12_0_29 oa_12_0_29 ot_0 h (fun h => ?_)
      refine kz_aload_n (M := kt_M579) kX13_typeInCase_c12.2.1 rfl ?_
      refine kz_gfc (M := kt_M579) (x := 4101) (c := 12) (o := 0) kX13_typeInCase_c12.2.2.1 wf_X13_196 (.inl rfl) ?_
      refine kz_aload_n (M := kt_M579) kX13_typeInCase_c12.2.2.2.1 rfl ?_
      refine kz_gfc (M := kt_M579) (x := 4121) (c := 12) (o := 0) kX13_typeInCase_c12.2.2.2.2.1 wf_X13_232 (.inl rfl) ?_
      refine kz_iload (M := kt_M579) kX13_typeInCase_c12.2.2.2.2.2.1 rfl ?_
      refine kz_iald (M := kt_M579) (c := 12) (o := 0) (k := 49) (a := (E.2.1 4121)) kX13_typeInCase_c12.2.2.2.2.2.2.1 ow_12_0_49 oa_12_0_49 ot_0 h (fun h => ?_)
      refine kz_iald (M := kt_M579) (c := 12) (o := 0) (k := 29) (a := (E.2.1 4101)) kX13_typeInCase_c12.2.2.2.2.2.2.2.1 ow_12_0_29 oa_12_0_29 ot_0 h (fun h => ?_)
      refine kz_ic (M := kt_M579) (-1) kX13_typeInCase_c13.1 rfl ?_
      refine kz_cv0 (M := kt_M579) (c := 12) (o := 0) (As := [.int x4, .int (w_a w 12 0 29 (x4).toNatClampNeg), .int (w_a w 12 0 29 (w_a w 12 0 49 (x5).toNatClampNeg).toNatClampNeg), .int (-1)]) (rest := []) kX13_typeInCase_c13.2.1 wl_X13_907 wMv_580 rfl (.inl rfl) rfl (Nat.le_trans (Nat.le_of_ble_eq_true rfl) hL) (Nat.le_of_ble_eq_true rfl) (Nat.le_of_ble_eq_true rfl) h (fun w1 hle h => ?_) (fun _ _ _ h => kzx_no rfl h)
      have h := h hle
      exact kz_weak [(0, .ref (w_adr E.2.1 12 0)), (1, .int x1), (2, .int x2), (3, .int x3), (4, .int x4)] ⟨rfl, ⟨rfl, ⟨rfl, ⟨rfl, ⟨rfl, trivial⟩⟩⟩⟩⟩ rfl (zt_X13_typeInCase_p197 hL  h)
  · skip
    refine kz_iload (M := kt_M579) kX13_typeInCase_c8.2.2.2.2.1 rfl ?_
    refine kz_if_lt (M := kt_M579) kX13_typeInCase_c8.2.2.2.2.2.1 (t := 154) rfl h (fun h => ?_) (fun h => ?_)
    · skip
      exact kz_weak [(0, .ref (w_adr E.2.1 12 0)), (1, .int x1), (2, .int x2), (3, .int x3), (4, .int x4), (5, .int x5), (6, .int x6)] ⟨rfl, ⟨rfl, ⟨rfl, ⟨rfl, ⟨rfl, ⟨rfl, ⟨rfl, trivial⟩⟩⟩⟩⟩⟩⟩ rfl (zt_X13_typeInCase_p154 hL  h)
    · skip
      refine kz_aload_n (M := kt_M579) kX13_typeInCase_c8.2.2.2.2.2.2.1 rfl ?_
      refine kz_gfc (M := kt_M579) (x := 4103) (c := 12) (o := 0) kX13_typeInCase_c8.2.2.2.2.2.2.2.1 wf_X13_202 (.inl rfl) ?_
      refine kz_iload (M := kt_M579) kX13_typeInCase_c9.1 rfl ?_
      refine kz_iald (M := kt_M579) (c := 12) (o := 0) (k := 31) (a := (E.2.1 4103)) kX13_typeInCase_c9.2.1 ow_12_0_31 oa_12_0_31 ot_0 h (fun h => ?_)
      refine kz_iload (M := kt_M579) kX13_typeInCase_c9.2.2.1 rfl ?_
      refine kz_icmp_ne (M := kt_M579) kX13_typeInCase_c9.2.2.2.1 (t := 154) rfl h (fun h => ?_) (fun h => ?_)
      · skip
        exact kz_weak [(0, .ref (w_adr E.2.1 12 0)), (1, .int x1), (2, .int x2), (3, .int x3), (4, .int x4), (5, .int x5), (6, .int x6)] ⟨rfl, ⟨rfl, ⟨rfl, ⟨rfl, ⟨rfl, ⟨rfl, ⟨rfl, trivial⟩⟩⟩⟩⟩⟩⟩ rfl (zt_X13_typeInCase_p154 hL  h)
      · skip
        refine kz_aload_n (M := kt_M579) kX13_typeInCase_c9.2.2.2.2.1 rfl ?_
        refine kz_bi (M := kt_M579) 10 kX13_typeInCase_c9.2.2.2.2.2.1 rfl ?_
        refine kz_aload_n (M := kt_M579) kX13_typeInCase_c9.2.2.2.2.2.2.1 rfl ?_
        refine kz_gfc (M := kt_M579) (x := 4099) (c := 12) (o := 0) kX13_typeInCase_c9.2.2.2.2.2.2.2.1 wf_X13_190 (.inl rfl) ?_
        refine kz_iload (M := kt_M579) kX13_typeInCase_c10.1 rfl ?_
        refine kz_iald (M := kt_M579) (c := 12) (o := 0) (k := 27) (a := (E.2.1 4099)) kX13_typeInCase_c10.2.1 ow_12_0_27 oa_12_0_27 ot_0 h (fun h => ?_)
        refine kz_cv0 (M := kt_M579) (c := 12) (o := 0) (As := [.int 10, .int (w_a w 12 0 27 (x4).toNatClampNeg)]) (rest := []) kX13_typeInCase_c10.2.2.1 wl_X13_734 wMv_560 rfl (.inl rfl) rfl (Nat.le_trans (Nat.le_of_ble_eq_true rfl) hL) (Nat.le_of_ble_eq_true rfl) (Nat.le_of_ble_eq_true rfl) h (fun w3 hle h => ?_) (fun _ _ _ h => kzx_no rfl h)
        have h := h hle
        exact kz_weak [(0, .ref (w_adr E.2.1 12 0)), (1, .int x1), (2, .int x2), (3, .int x3), (4, .int x4), (5, .int x5), (6, .int x6)] ⟨rfl, ⟨rfl, ⟨rfl, ⟨rfl, ⟨rfl, ⟨rfl, ⟨rfl, trivial⟩⟩⟩⟩⟩⟩⟩ rfl (zt_X13_typeInCase_p154 hL  h)
def zb_X13_typeInCase_p109 (E : zE) (L : Nat) (Q : kx_Rs → wS → Prop) (x1 : Int32) (x2 : Int32) (x3 : Int32) (x4 : Int32) (x5 : Int32) (w : wS) : Prop := (kx_inb x1 (w_n w 12 0 29) = true ∧ zL_X13_typeInCase_p117 E L Q x1 x2 x3 x4 x5 (w_a w 12 0 29 (x1).toNatClampNeg) w)
theorem zt_X13_typeInCase_p109 {E : zE} {L : Nat} {Q : kx_Rs → wS → Prop} {x1 : Int32} {x2 : Int32} {x3 : Int32} {x4 : Int32} {x5 : Int32} {w : wS} (hL : 29 ≤ L) (h : zb_X13_typeInCase_p109 E L Q x1 x2 x3 x4 x5 w) : kzE E L kt_M579 109 [(0, .ref (w_adr E.2.1 12 0)), (1, .int x1), (2, .int x2), (3, .int x3), (4, .int x4), (5, .int x5)] [] w Q := by
  unfold zb_X13_typeInCase_p109 at h
  refine kz_aload_n (M := kt_M579) kX13_typeInCase_c7.2.2.2.2.1 rfl ?_
  refine kz_gfc (M := kt_M579) (x := 4101) (c := 12) (o := 0) kX13_typeInCase_c7.2.2.2.2.2.1 wf_X13_196 (.inl rfl) ?_
  refine kz_iload_n (M := kt_M579) kX13_typeInCase_c7.2.2.2.2.2.2.1 rfl ?_
  refine kz_iald (M := kt_M579) (c := 12) (o := 0) (k := 29) (a := (E.2.1 4101)) kX13_typeInCase_c7.2.2.2.2.2.2.2.1 ow_12_0_29 oa_12_0_29 ot_0 h (fun h => ?_)
  refine kz_sti (M := kt_M579) [(0, .ref (w_adr E.2.1 12 0)), (1, .int x1), (2, .int x2), (3, .int x3), (4, .int x4), (5, .int x5)] kX13_typeInCase_c8.1 (Nat.le_of_ble_eq_true rfl) ⟨⟨rfl, rfl, .inl rfl⟩, ⟨⟨rfl, rfl, .inl rfl⟩, ⟨⟨rfl, rfl, .inl rfl⟩, ⟨⟨rfl, rfl, .inl rfl⟩, ⟨⟨rfl, rfl, .inl rfl⟩, ⟨⟨rfl, rfl, .inr rfl⟩, trivial⟩⟩⟩⟩⟩⟩ rfl ?_
  exact kz_weak [(0, .ref (w_adr E.2.1 12 0)), (1, .int x1), (2, .int x2), (3, .int x3), (4, .int x4), (5, .int x5), (6, .int (w_a w 12 0 29 (x1).toNatClampNeg))] ⟨rfl, ⟨rfl, ⟨rfl, ⟨rfl, ⟨rfl, ⟨rfl, ⟨rfl, trivial⟩⟩⟩⟩⟩⟩⟩ rfl h
def zb_X13_typeInCase_p57 (E : zE) (L : Nat) (Q : kx_Rs → wS → Prop) (x1 : Int32) (x2 : Int32) (x3 : Int32) (x4 : Int32) (w : wS) : Prop := (if x4 < 0 then Q (.inl none) w else (kx_inb x4 (w_n w 12 0 31) = true ∧ (if x3 = 0 then zb_X13_typeInCase_p109 E L Q x1 x2 x3 x4 (w_a w 12 0 31 (x4).toNatClampNeg) w else (if w_a w 12 0 31 (x4).toNatClampNeg < 0 then zb_X13_typeInCase_p109 E L Q x1 x2 x3 x4 (w_a w 12 0 31 (x4).toNatClampNeg) w else (kx_inb (w_a w 12 0 31 (x4).toNatClampNeg) (w_n w 12 0 47) = true ∧ (kx_inb x2 (w_n w 12 0 47) = true ∧ (if w_a w 12 0 47 (w_a w 12 0 31 (x4).toNatClampNeg).toNatClampNeg = w_a w 12 0 47 (x2).toNatClampNeg then zb_X13_typeInCase_p109 E L Q x1 x2 x3 x4 (w_a w 12 0 31 (x4).toNatClampNeg) w else (kx_inb x4 (w_n w 12 0 27) = true ∧ zw E (L - 22) kt_M560 [.ref (w_adr E.2.1 12 0), .int 7, .int (w_a w 12 0 27 (x4).toNatClampNeg)] w (wk0 (fun w1 => wle w w1 → zb_X13_typeInCase_p109 E L Q x1 x2 x3 x4 (w_a w 12 0 31 (x4).toNatClampNeg) w1) (fun e w => Q (.inr e) w))))))))))
theorem zt_X13_typeInCase_p57 {E : zE} {L : Nat} {Q : kx_Rs → wS → Prop} {x1 : Int32} {x2 : Int32} {x3 : Int32} {x4 : Int32} {w : wS} (hL : 29 ≤ L) (h : zb_X13_typeInCase_p57 E L Q x1 x2 x3 x4 w) : kzE E L kt_M579 57 [(0, .ref (w_adr E.2.1 12 0)), (1, .int x1), (2, .int x2), (3, .int x3), (4, .int x4)] [] w Q := by
  unfold zb_X13_typeInCase_p57 at h
  refine kz_iload (M := kt_M579) kX13_typeInCase_c4.2.1 rfl ?_
  refine kz_if_lt (M := kt_M579) kX13_typeInCase_c4.2.2.1 (t := 220) rfl h (fun h => ?_) (fun h => ?_)
  · skip
    exact kz_ret (M := kt_M579) kX13_typeInCase_c14.2.2.2.2.2.2.1 rfl h
  · skip
    refine kz_aload_n (M := kt_M579) kX13_typeInCase_c4.2.2.2.1 rfl ?_
    refine kz_gfc (M := kt_M579) (x := 4103) (c := 12) (o := 0) kX13_typeInCase_c4.2.2.2.2.1 wf_X13_202 (.inl rfl) ?_
    refine kz_iload (M := kt_M579) kX13_typeInCase_c4.2.2.2.2.2.1 rfl ?_
    refine kz_iald (M := kt_M579) (c := 12) (o := 0) (k := 31) (a := (E.2.1 4103)) kX13_typeInCase_c4.2.2.2.2.2.2.1 ow_12_0_31 oa_12_0_31 ot_0 h (fun h => ?_)
    refine kz_sti (M := kt_M579) [(0, .ref (w_adr E.2.1 12 0)), (1, .int x1), (2, .int x2), (3, .int x3), (4, .int x4)] kX13_typeInCase_c4.2.2.2.2.2.2.2.1 (Nat.le_of_ble_eq_true rfl) ⟨⟨rfl, rfl, .inl rfl⟩, ⟨⟨rfl, rfl, .inl rfl⟩, ⟨⟨rfl, rfl, .inl rfl⟩, ⟨⟨rfl, rfl, .inl rfl⟩, ⟨⟨rfl, rfl, .inr rfl⟩, trivial⟩⟩⟩⟩⟩ rfl ?_
    refine kz_iload_n (M := kt_M579) kX13_typeInCase_c5.1 rfl ?_
    refine kz_if_eq (M := kt_M579) kX13_typeInCase_c5.2.1 (t := 109) rfl h (fun h => ?_) (fun h => ?_)
    · skip
      exact kz_weak [(0, .ref (w_adr E.2.1 12 0)), (1, .int x1), (2, .int x2), (3, .int x3), (4, .int x4), (5, .int (w_a w 12 0 31 (x4).toNatClampNeg))] ⟨rfl, ⟨rfl, ⟨rfl, ⟨rfl, ⟨rfl, ⟨rfl, trivial⟩⟩⟩⟩⟩⟩ rfl (zt_X13_typeInCase_p109 hL  h)
    · skip
      refine kz_iload (M := kt_M579) kX13_typeInCase_c5.2.2.1 rfl ?_
      refine kz_if_lt (M := kt_M579) kX13_typeInCase_c5.2.2.2.1 (t := 109) rfl h (fun h => ?_) (fun h => ?_)
      · skip
        exact kz_weak [(0, .ref (w_adr E.2.1 12 0)), (1, .int x1), (2, .int x2), (3, .int x3), (4, .int x4), (5, .int (w_a w 12 0 31 (x4).toNatClampNeg))] ⟨rfl, ⟨rfl, ⟨rfl, ⟨rfl, ⟨rfl, ⟨rfl, trivial⟩⟩⟩⟩⟩⟩ rfl (zt_X13_typeInCase_p109 hL  h)
      · skip
        refine kz_aload_n (M := kt_M579) kX13_typeInCase_c5.2.2.2.2.1 rfl ?_
        refine kz_gfc (M := kt_M579) (x := 4119) (c := 12) (o := 0) kX13_typeInCase_c5.2.2.2.2.2.1 wf_X13_226 (.inl rfl) ?_
        refine kz_iload (M := kt_M579) kX13_typeInCase_c5.2.2.2.2.2.2.1 rfl ?_
        refine kz_iald (M := kt_M579) (c := 12) (o := 0) (k := 47) (a := (E.2.1 4119)) kX13_typeInCase_c5.2.2.2.2.2.2.2.1 ow_12_0_47 oa_12_0_47 ot_0 h (fun h => ?_)
        refine kz_aload_n (M := kt_M579) kX13_typeInCase_c6.1 rfl ?_
        refine kz_gfc (M := kt_M579) (x := 4119) (c := 12) (o := 0) kX13_typeInCase_c6.2.1 wf_X13_226 (.inl rfl) ?_
        refine kz_iload_n (M := kt_M579) kX13_typeInCase_c6.2.2.1 rfl ?_
        refine kz_iald (M := kt_M579) (c := 12) (o := 0) (k := 47) (a := (E.2.1 4119)) kX13_typeInCase_c6.2.2.2.1 ow_12_0_47 oa_12_0_47 ot_0 h (fun h => ?_)
        refine kz_icmp_eq (M := kt_M579) kX13_typeInCase_c6.2.2.2.2.1 (t := 109) rfl h (fun h => ?_) (fun h => ?_)
        · skip
          exact kz_weak [(0, .ref (w_adr E.2.1 12 0)), (1, .int x1), (2, .int x2), (3, .int x3), (4, .int x4), (5, .int (w_a w 12 0 31 (x4).toNatClampNeg))] ⟨rfl, ⟨rfl, ⟨rfl, ⟨rfl, ⟨rfl, ⟨rfl, trivial⟩⟩⟩⟩⟩⟩ rfl (zt_X13_typeInCase_p109 hL  h)
        · skip
          refine kz_aload_n (M := kt_M579) kX13_typeInCase_c6.2.2.2.2.2.1 rfl ?_
          refine kz_bi (M := kt_M579) 7 kX13_typeInCase_c6.2.2.2.2.2.2.1 rfl ?_
          refine kz_aload_n (M := kt_M579) kX13_typeInCase_c6.2.2.2.2.2.2.2.1 rfl ?_
          refine kz_gfc (M := kt_M579) (x := 4099) (c := 12) (o := 0) kX13_typeInCase_c7.1 wf_X13_190 (.inl rfl) ?_
          refine kz_iload (M := kt_M579) kX13_typeInCase_c7.2.1 rfl ?_
          refine kz_iald (M := kt_M579) (c := 12) (o := 0) (k := 27) (a := (E.2.1 4099)) kX13_typeInCase_c7.2.2.1 ow_12_0_27 oa_12_0_27 ot_0 h (fun h => ?_)
          refine kz_cv0 (M := kt_M579) (c := 12) (o := 0) (As := [.int 7, .int (w_a w 12 0 27 (x4).toNatClampNeg)]) (rest := []) kX13_typeInCase_c7.2.2.2.1 wl_X13_734 wMv_560 rfl (.inl rfl) rfl (Nat.le_trans (Nat.le_of_ble_eq_true rfl) hL) (Nat.le_of_ble_eq_true rfl) (Nat.le_of_ble_eq_true rfl) h (fun w1 hle h => ?_) (fun _ _ _ h => kzx_no rfl h)
          have h := h hle
          exact kz_weak [(0, .ref (w_adr E.2.1 12 0)), (1, .int x1), (2, .int x2), (3, .int x3), (4, .int x4), (5, .int (w_a w 12 0 31 (x4).toNatClampNeg))] ⟨rfl, ⟨rfl, ⟨rfl, ⟨rfl, ⟨rfl, ⟨rfl, trivial⟩⟩⟩⟩⟩⟩ rfl (zt_X13_typeInCase_p109 hL  h)
def zb_X13_typeInCase_p49 (E : zE) (L : Nat) (Q : kx_Rs → wS → Prop) (x1 : Int32) (x2 : Int32) (x3 : Int32) (w : wS) : Prop := (kx_inb x1 (w_n w 12 0 29) = true ∧ zL_X13_typeInCase_p57 E L Q x1 x2 x3 (w_a w 12 0 29 (x1).toNatClampNeg) w)
theorem zt_X13_typeInCase_p49 {E : zE} {L : Nat} {Q : kx_Rs → wS → Prop} {x1 : Int32} {x2 : Int32} {x3 : Int32} {w : wS} (hL : 29 ≤ L) (h : zb_X13_typeInCase_p49 E L Q x1 x2 x3 w) : kzE E L kt_M579 49 [(0, .ref (w_adr E.2.1 12 0)), (1, .int x1), (2, .int x2), (3, .int x3)] [] w Q := by
  unfold zb_X13_typeInCase_p49 at h
  refine kz_aload_n (M := kt_M579) kX13_typeInCase_c3.2.2.2.2.1 rfl ?_
  refine kz_gfc (M := kt_M579) (x := 4101) (c := 12) (o := 0) kX13_typeInCase_c3.2.2.2.2.2.1 wf_X13_196 (.inl rfl) ?_
  refine kz_iload_n (M := kt_M579) kX13_typeInCase_c3.2.2.2.2.2.2.1 rfl ?_
  refine kz_iald (M := kt_M579) (c := 12) (o := 0) (k := 29) (a := (E.2.1 4101)) kX13_typeInCase_c3.2.2.2.2.2.2.2.1 ow_12_0_29 oa_12_0_29 ot_0 h (fun h => ?_)
  refine kz_sti (M := kt_M579) [(0, .ref (w_adr E.2.1 12 0)), (1, .int x1), (2, .int x2), (3, .int x3)] kX13_typeInCase_c4.1 (Nat.le_of_ble_eq_true rfl) ⟨⟨rfl, rfl, .inl rfl⟩, ⟨⟨rfl, rfl, .inl rfl⟩, ⟨⟨rfl, rfl, .inl rfl⟩, ⟨⟨rfl, rfl, .inr rfl⟩, trivial⟩⟩⟩⟩ rfl ?_
  exact kz_weak [(0, .ref (w_adr E.2.1 12 0)), (1, .int x1), (2, .int x2), (3, .int x3), (4, .int (w_a w 12 0 29 (x1).toNatClampNeg))] ⟨rfl, ⟨rfl, ⟨rfl, ⟨rfl, ⟨rfl, trivial⟩⟩⟩⟩⟩ rfl h
def zb_X13_typeInCase_p28 (E : zE) (L : Nat) (Q : kx_Rs → wS → Prop) (x1 : Int32) (x2 : Int32) (y0 : Int32) (w : wS) : Prop := (if x2 < 0 then zb_X13_typeInCase_p49 E L Q x1 x2 y0 w else (if ¬ y0 = 0 then zb_X13_typeInCase_p49 E L Q x1 x2 y0 w else (kx_inb x1 (w_n w 12 0 27) = true ∧ zw E (L - 22) kt_M560 [.ref (w_adr E.2.1 12 0), .int 7, .int (w_a w 12 0 27 (x1).toNatClampNeg)] w (wk0 (fun w1 => wle w w1 → zb_X13_typeInCase_p49 E L Q x1 x2 y0 w1) (fun e w => Q (.inr e) w)))))
theorem zt_X13_typeInCase_p28 {E : zE} {L : Nat} {Q : kx_Rs → wS → Prop} {x1 : Int32} {x2 : Int32} {y0 : Int32} {w : wS} (hL : 29 ≤ L) (h : zb_X13_typeInCase_p28 E L Q x1 x2 y0 w) : kzE E L kt_M579 28 [(0, .ref (w_adr E.2.1 12 0)), (1, .int x1), (2, .int x2)] [.int y0] w Q := by
  unfold zb_X13_typeInCase_p28 at h
  refine kz_sti_n (M := kt_M579) [(0, .ref (w_adr E.2.1 12 0)), (1, .int x1), (2, .int x2)] kX13_typeInCase_c2.1 (Nat.le_of_ble_eq_true rfl) ⟨⟨rfl, rfl, .inl rfl⟩, ⟨⟨rfl, rfl, .inl rfl⟩, ⟨⟨rfl, rfl, .inr rfl⟩, trivial⟩⟩⟩ rfl ?_
  refine kz_iload_n (M := kt_M579) kX13_typeInCase_c2.2.1 rfl ?_
  refine kz_if_lt (M := kt_M579) kX13_typeInCase_c2.2.2.1 (t := 49) rfl h (fun h => ?_) (fun h => ?_)
  · skip
    exact kz_weak [(0, .ref (w_adr E.2.1 12 0)), (1, .int x1), (2, .int x2), (3, .int y0)] ⟨rfl, ⟨rfl, ⟨rfl, ⟨rfl, trivial⟩⟩⟩⟩ rfl (zt_X13_typeInCase_p49 hL  h)
  · skip
    refine kz_iload_n (M := kt_M579) kX13_typeInCase_c2.2.2.2.1 rfl ?_
    refine kz_if_ne (M := kt_M579) kX13_typeInCase_c2.2.2.2.2.1 (t := 49) rfl h (fun h => ?_) (fun h => ?_)
    · skip
      exact kz_weak [(0, .ref (w_adr E.2.1 12 0)), (1, .int x1), (2, .int x2), (3, .int y0)] ⟨rfl, ⟨rfl, ⟨rfl, ⟨rfl, trivial⟩⟩⟩⟩ rfl (zt_X13_typeInCase_p49 hL  h)
    · skip
      refine kz_aload_n (M := kt_M579) kX13_typeInCase_c2.2.2.2.2.2.1 rfl ?_
      refine kz_bi (M := kt_M579) 7 kX13_typeInCase_c2.2.2.2.2.2.2.1 rfl ?_
      refine kz_aload_n (M := kt_M579) kX13_typeInCase_c2.2.2.2.2.2.2.2.1 rfl ?_
      refine kz_gfc (M := kt_M579) (x := 4099) (c := 12) (o := 0) kX13_typeInCase_c3.1 wf_X13_190 (.inl rfl) ?_
      refine kz_iload_n (M := kt_M579) kX13_typeInCase_c3.2.1 rfl ?_
      refine kz_iald (M := kt_M579) (c := 12) (o := 0) (k := 27) (a := (E.2.1 4099)) kX13_typeInCase_c3.2.2.1 ow_12_0_27 oa_12_0_27 ot_0 h (fun h => ?_)
      refine kz_cv0 (M := kt_M579) (c := 12) (o := 0) (As := [.int 7, .int (w_a w 12 0 27 (x1).toNatClampNeg)]) (rest := []) kX13_typeInCase_c3.2.2.2.1 wl_X13_734 wMv_560 rfl (.inl rfl) rfl (Nat.le_trans (Nat.le_of_ble_eq_true rfl) hL) (Nat.le_of_ble_eq_true rfl) (Nat.le_of_ble_eq_true rfl) h (fun w1 hle h => ?_) (fun _ _ _ h => kzx_no rfl h)
      have h := h hle
      exact kz_weak [(0, .ref (w_adr E.2.1 12 0)), (1, .int x1), (2, .int x2), (3, .int y0)] ⟨rfl, ⟨rfl, ⟨rfl, ⟨rfl, trivial⟩⟩⟩⟩ rfl (zt_X13_typeInCase_p49 hL  h)
def zb_X13_typeInCase_p27 (E : zE) (L : Nat) (Q : kx_Rs → wS → Prop) (x1 : Int32) (x2 : Int32) (w : wS) : Prop := zb_X13_typeInCase_p28 E L Q x1 x2 0 w
theorem zt_X13_typeInCase_p27 {E : zE} {L : Nat} {Q : kx_Rs → wS → Prop} {x1 : Int32} {x2 : Int32} {w : wS} (hL : 29 ≤ L) (h : zb_X13_typeInCase_p27 E L Q x1 x2 w) : kzE E L kt_M579 27 [(0, .ref (w_adr E.2.1 12 0)), (1, .int x1), (2, .int x2)] [] w Q := by
  unfold zb_X13_typeInCase_p27 at h
  refine kz_ic (M := kt_M579) 0 kX13_typeInCase_c1.2.2.2.2.2.2.2.1 rfl ?_
  exact kz_weak [(0, .ref (w_adr E.2.1 12 0)), (1, .int x1), (2, .int x2)] ⟨rfl, ⟨rfl, ⟨rfl, trivial⟩⟩⟩ rfl (zt_X13_typeInCase_p28 hL  h)
def zb_X13_typeInCase_p0 (E : zE) (L : Nat) (Q : kx_Rs → wS → Prop) (x1 : Int32) (w : wS) : Prop := (kx_inb x1 (w_n w 12 0 28) = true ∧ zw E (L - 22) kt_M573 [.ref (w_adr E.2.1 12 0), .int (w_a w 12 0 28 (x1).toNatClampNeg)] w (wk1 (fun v2 w1 => wle w w1 → (if v2 < 0 then zb_X13_typeInCase_p27 E L Q x1 v2 w1 else zw E (L - 21) kt_M427 [.ref (w_adr E.2.1 12 0), .int v2] w1 (wk1 (fun v4 w3 => wle w1 w3 → (if v4 = 0 then zb_X13_typeInCase_p27 E L Q x1 v2 w3 else zb_X13_typeInCase_p28 E L Q x1 v2 1 w3)) (fun e w => Q (.inr e) w)))) (fun e w => Q (.inr e) w)))
theorem zt_X13_typeInCase_p0 {E : zE} {L : Nat} {Q : kx_Rs → wS → Prop} {x1 : Int32} {w : wS} (hL : 29 ≤ L) (h : zb_X13_typeInCase_p0 E L Q x1 w) : kzE E L kt_M579 0 [(0, .ref (w_adr E.2.1 12 0)), (1, .int x1)] [] w Q := by
  unfold zb_X13_typeInCase_p0 at h
  refine kz_aload_n (M := kt_M579) kX13_typeInCase_c0.1 rfl ?_
  refine kz_aload_n (M := kt_M579) kX13_typeInCase_c0.2.1 rfl ?_
  refine kz_gfc (M := kt_M579) (x := 4100) (c := 12) (o := 0) kX13_typeInCase_c0.2.2.1 wf_X13_193 (.inl rfl) ?_
  refine kz_iload_n (M := kt_M579) kX13_typeInCase_c0.2.2.2.1 rfl ?_
  refine kz_iald (M := kt_M579) (c := 12) (o := 0) (k := 28) (a := (E.2.1 4100)) kX13_typeInCase_c0.2.2.2.2.1 ow_12_0_28 oa_12_0_28 ot_0 h (fun h => ?_)
  refine kz_cv1 (M := kt_M579) (c := 12) (o := 0) (As := [.int (w_a w 12 0 28 (x1).toNatClampNeg)]) (rest := []) kX13_typeInCase_c0.2.2.2.2.2.1 wl_X13_901 wMv_573 rfl (.inl rfl) rfl (Nat.le_trans (Nat.le_of_ble_eq_true rfl) hL) (Nat.le_of_ble_eq_true rfl) (Nat.le_of_ble_eq_true rfl) h (fun v2 w1 hle h => ?_) (fun _ _ _ h => kzx_no rfl h)
  have h := h hle
  refine kz_sti_n (M := kt_M579) [(0, .ref (w_adr E.2.1 12 0)), (1, .int x1)] kX13_typeInCase_c0.2.2.2.2.2.2.1 (Nat.le_of_ble_eq_true rfl) ⟨⟨rfl, rfl, .inl rfl⟩, ⟨⟨rfl, rfl, .inr rfl⟩, trivial⟩⟩ rfl ?_
  refine kz_iload_n (M := kt_M579) kX13_typeInCase_c0.2.2.2.2.2.2.2.1 rfl ?_
  refine kz_if_lt (M := kt_M579) kX13_typeInCase_c1.1 (t := 27) rfl h (fun h => ?_) (fun h => ?_)
  · skip
    exact kz_weak [(0, .ref (w_adr E.2.1 12 0)), (1, .int x1), (2, .int v2)] ⟨rfl, ⟨rfl, ⟨rfl, trivial⟩⟩⟩ rfl (zt_X13_typeInCase_p27 hL  h)
  · skip
    refine kz_aload_n (M := kt_M579) kX13_typeInCase_c1.2.1 rfl ?_
    refine kz_iload_n (M := kt_M579) kX13_typeInCase_c1.2.2.1 rfl ?_
    refine kz_cv1 (M := kt_M579) (c := 12) (o := 0) (As := [.int v2]) (rest := []) kX13_typeInCase_c1.2.2.2.1 wl_X13_784 wMv_427 rfl (.inl rfl) rfl (Nat.le_trans (Nat.le_of_ble_eq_true rfl) hL) (Nat.le_of_ble_eq_true rfl) (Nat.le_of_ble_eq_true rfl) h (fun v4 w3 hle h => ?_) (fun _ _ _ h => kzx_no rfl h)
    have h := h hle
    refine kz_if_eq (M := kt_M579) kX13_typeInCase_c1.2.2.2.2.1 (t := 27) rfl h (fun h => ?_) (fun h => ?_)
    · skip
      exact kz_weak [(0, .ref (w_adr E.2.1 12 0)), (1, .int x1), (2, .int v2)] ⟨rfl, ⟨rfl, ⟨rfl, trivial⟩⟩⟩ rfl (zt_X13_typeInCase_p27 hL  h)
    · skip
      refine kz_ic (M := kt_M579) 1 kX13_typeInCase_c1.2.2.2.2.2.1 rfl ?_
      refine kz_goto (M := kt_M579) kX13_typeInCase_c1.2.2.2.2.2.2.1 (t := 28) rfl ?_
      exact kz_weak [(0, .ref (w_adr E.2.1 12 0)), (1, .int x1), (2, .int v2)] ⟨rfl, ⟨rfl, ⟨rfl, trivial⟩⟩⟩ rfl (zt_X13_typeInCase_p28 hL  h)
def zL_X13_typeOut_p194 (E : zE) (L : Nat) (Q : kx_Rs → wS → Prop) (x4 : Int32) (w : wS) : Prop := kzE E L kt_M583 194 [(0, .ref (w_adr E.2.1 12 0)), (4, .int x4)] [] w Q
def zL_X13_typeOut_p136 (E : zE) (L : Nat) (Q : kx_Rs → wS → Prop) (x5 : Int32) (w : wS) : Prop := kzE E L kt_M583 136 [(0, .ref (w_adr E.2.1 12 0)), (5, .int x5)] [] w Q
def zb_X13_typeOut_p194 (E : zE) (L : Nat) (Q : kx_Rs → wS → Prop) (x4 : Int32) (w : wS) : Prop := (if x4 < 0 then Q (.inl none) w else zw E (L - 23) kt_M576 [.ref (w_adr E.2.1 12 0), .int x4] w (wk1 (fun v2 w1 => wle w w1 → (kx_inb x4 (w_n w1 12 0 32) = true ∧ zL_X13_typeOut_p194 E L Q (w_a w1 12 0 32 (x4).toNatClampNeg) w1)) (fun e w => Q (.inr e) w)))
theorem zt_X13_typeOut_p194 {E : zE} {L : Nat} {Q : kx_Rs → wS → Prop} {x4 : Int32} {w : wS} (hL : 29 ≤ L) (h : zb_X13_typeOut_p194 E L Q x4 w) : kzE E L kt_M583 194 [(0, .ref (w_adr E.2.1 12 0)), (4, .int x4)] [] w Q := by
  unfold zb_X13_typeOut_p194 at h
  refine kz_iload (M := kt_M583) kX13_typeOut_c13.2.2.2.2.1 rfl ?_
  refine kz_if_lt (M := kt_M583) kX13_typeOut_c13.2.2.2.2.2.1 (t := 219) rfl h (fun h => ?_) (fun h => ?_)
  · skip
    exact kz_ret (M := kt_M583) kX13_typeOut_c15.1 rfl h
  · skip
    refine kz_aload_n (M := kt_M583) kX13_typeOut_c13.2.2.2.2.2.2.1 rfl ?_
    refine kz_iload (M := kt_M583) kX13_typeOut_c13.2.2.2.2.2.2.2.1 rfl ?_
    refine kz_cv1 (M := kt_M583) (c := 12) (o := 0) (As := [.int x4]) (rest := []) kX13_typeOut_c14.1 wl_X13_853 wMv_576 rfl (.inl rfl) rfl (Nat.le_trans (Nat.le_of_ble_eq_true rfl) hL) (Nat.le_of_ble_eq_true rfl) (Nat.le_of_ble_eq_true rfl) h (fun v2 w1 hle h => ?_) (fun _ _ _ h => kzx_no rfl h)
    have h := h hle
    refine kz_sti (M := kt_M583) [(0, .ref (w_adr E.2.1 12 0)), (4, .int x4)] kX13_typeOut_c14.2.1 (Nat.le_of_ble_eq_true rfl) ⟨⟨rfl, rfl, .inl rfl⟩, ⟨⟨rfl, rfl, .inr rfl⟩, trivial⟩⟩ rfl ?_
    refine kz_aload_n (M := kt_M583) kX13_typeOut_c14.2.2.1 rfl ?_
    refine kz_gfc (M := kt_M583) (x := 4104) (c := 12) (o := 0) kX13_typeOut_c14.2.2.2.1 wf_X13_205 (.inl rfl) ?_
    refine kz_iload (M := kt_M583) kX13_typeOut_c14.2.2.2.2.1 rfl ?_
    refine kz_iald (M := kt_M583) (c := 12) (o := 0) (k := 32) (a := (E.2.1 4104)) kX13_typeOut_c14.2.2.2.2.2.1 ow_12_0_32 oa_12_0_32 ot_0 h (fun h => ?_)
    refine kz_sti (M := kt_M583) [(0, .ref (w_adr E.2.1 12 0))] kX13_typeOut_c14.2.2.2.2.2.2.1 (Nat.le_of_ble_eq_true rfl) ⟨⟨rfl, rfl, .inl rfl⟩, trivial⟩ rfl ?_
    refine kz_goto (M := kt_M583) kX13_typeOut_c14.2.2.2.2.2.2.2.1 (t := 194) rfl ?_
    exact kz_weak [(0, .ref (w_adr E.2.1 12 0)), (4, .int (w_a w1 12 0 32 (x4).toNatClampNeg))] ⟨rfl, ⟨rfl, trivial⟩⟩ rfl h
def zb_X13_typeOut_p187 (E : zE) (L : Nat) (Q : kx_Rs → wS → Prop) (x1 : Int32) (x2 : Int32) (x3 : Int32) (w : wS) : Prop := (if 0 ≤ x2 then zw E (L - 22) kt_M508 [.ref (w_adr E.2.1 12 0), .int x2] w (wk1 (fun v2 w1 => wle w w1 → (kx_inb x2 (w_n w1 12 0 47) = true ∧ zw E (L - 29) kt_M580 [.ref (w_adr E.2.1 12 0), .int x1, .int x3, .int v2, .int (w_a w1 12 0 47 (x2).toNatClampNeg)] w1 (wk0 (fun w3 => wle w1 w3 → Q (.inl none) w3) (fun e w => Q (.inr e) w)))) (fun e w => Q (.inr e) w)) else zL_X13_typeOut_p194 E L Q x3 w)
theorem zt_X13_typeOut_p187 {E : zE} {L : Nat} {Q : kx_Rs → wS → Prop} {x1 : Int32} {x2 : Int32} {x3 : Int32} {w : wS} (hL : 29 ≤ L) (h : zb_X13_typeOut_p187 E L Q x1 x2 x3 w) : kzE E L kt_M583 187 [(0, .ref (w_adr E.2.1 12 0)), (1, .int x1), (2, .int x2), (3, .int x3)] [] w Q := by
  unfold zb_X13_typeOut_p187 at h
  refine kz_iload_n (M := kt_M583) kX13_typeOut_c13.1 rfl ?_
  refine kz_if_ge (M := kt_M583) kX13_typeOut_c13.2.1 (t := 220) rfl h (fun h => ?_) (fun h => ?_)
  · skip
    refine kz_aload_n (M := kt_M583) kX13_typeOut_c15.2.1 rfl ?_
    refine kz_iload_n (M := kt_M583) kX13_typeOut_c15.2.2.1 rfl ?_
    refine kz_iload_n (M := kt_M583) kX13_typeOut_c15.2.2.2.1 rfl ?_
    refine kz_aload_n (M := kt_M583) kX13_typeOut_c15.2.2.2.2.1 rfl ?_
    refine kz_iload_n (M := kt_M583) kX13_typeOut_c15.2.2.2.2.2.1 rfl ?_
    refine kz_cv1 (M := kt_M583) (c := 12) (o := 0) (As := [.int x2]) (rest := [.int x3, .int x1, .ref (w_adr E.2.1 12 0)]) kX13_typeOut_c15.2.2.2.2.2.2.1 wl_X13_904 wMv_508 rfl (.inl rfl) rfl (Nat.le_trans (Nat.le_of_ble_eq_true rfl) hL) (Nat.le_of_ble_eq_true rfl) (Nat.le_of_ble_eq_true rfl) h (fun v2 w1 hle h => ?_) (fun _ _ _ h => kzx_no rfl h)
    have h := h hle
    refine kz_aload_n (M := kt_M583) kX13_typeOut_c15.2.2.2.2.2.2.2.1 rfl ?_
    refine kz_gfc (M := kt_M583) (x := 4119) (c := 12) (o := 0) kX13_typeOut_c16.1 wf_X13_226 (.inl rfl) ?_
    refine kz_iload_n (M := kt_M583) kX13_typeOut_c16.2.1 rfl ?_
    refine kz_iald (M := kt_M583) (c := 12) (o := 0) (k := 47) (a := (E.2.1 4119)) kX13_typeOut_c16.2.2.1 ow_12_0_47 oa_12_0_47 ot_0 h (fun h => ?_)
    refine kz_cv0 (M := kt_M583) (c := 12) (o := 0) (As := [.int x1, .int x3, .int v2, .int (w_a w1 12 0 47 (x2).toNatClampNeg)]) (rest := []) kX13_typeOut_c16.2.2.2.1 wl_X13_907 wMv_580 rfl (.inl rfl) rfl (Nat.le_trans (Nat.le_of_ble_eq_true rfl) hL) (Nat.le_of_ble_eq_true rfl) (Nat.le_of_ble_eq_true rfl) h (fun w3 hle h => ?_) (fun _ _ _ h => kzx_no rfl h)
    have h := h hle
    exact kz_ret (M := kt_M583) kX13_typeOut_c16.2.2.2.2.1 rfl h
  · skip
    refine kz_iload_n (M := kt_M583) kX13_typeOut_c13.2.2.1 rfl ?_
    refine kz_sti (M := kt_M583) [(0, .ref (w_adr E.2.1 12 0))] kX13_typeOut_c13.2.2.2.1 (Nat.le_of_ble_eq_true rfl) ⟨⟨rfl, rfl, .inl rfl⟩, trivial⟩ rfl ?_
    exact kz_weak [(0, .ref (w_adr E.2.1 12 0)), (4, .int x3)] ⟨rfl, ⟨rfl, trivial⟩⟩ rfl h
def zb_X13_typeOut_p136 (E : zE) (L : Nat) (Q : kx_Rs → wS → Prop) (x5 : Int32) (w : wS) : Prop := (if x5 < 0 then Q (.inl none) w else zw E (L - 23) kt_M576 [.ref (w_adr E.2.1 12 0), .int x5] w (wk1 (fun v2 w1 => wle w w1 → (kx_inb x5 (w_n w1 12 0 32) = true ∧ zL_X13_typeOut_p136 E L Q (w_a w1 12 0 32 (x5).toNatClampNeg) w1)) (fun e w => Q (.inr e) w)))
theorem zt_X13_typeOut_p136 {E : zE} {L : Nat} {Q : kx_Rs → wS → Prop} {x5 : Int32} {w : wS} (hL : 29 ≤ L) (h : zb_X13_typeOut_p136 E L Q x5 w) : kzE E L kt_M583 136 [(0, .ref (w_adr E.2.1 12 0)), (5, .int x5)] [] w Q := by
  unfold zb_X13_typeOut_p136 at h
  refine kz_iload (M := kt_M583) kX13_typeOut_c9.2.2.2.1 rfl ?_
  refine kz_if_lt (M := kt_M583) kX13_typeOut_c9.2.2.2.2.1 (t := 161) rfl h (fun h => ?_) (fun h => ?_)
  · skip
    exact kz_ret (M := kt_M583) kX13_typeOut_c10.2.2.2.2.2.2.2.1 rfl h
  · skip
    refine kz_aload_n (M := kt_M583) kX13_typeOut_c9.2.2.2.2.2.1 rfl ?_
    refine kz_iload (M := kt_M583) kX13_typeOut_c9.2.2.2.2.2.2.1 rfl ?_
    refine kz_cv1 (M := kt_M583) (c := 12) (o := 0) (As := [.int x5]) (rest := []) kX13_typeOut_c9.2.2.2.2.2.2.2.1 wl_X13_853 wMv_576 rfl (.inl rfl) rfl (Nat.le_trans (Nat.le_of_ble_eq_true rfl) hL) (Nat.le_of_ble_eq_true rfl) (Nat.le_of_ble_eq_true rfl) h (fun v2 w1 hle h => ?_) (fun _ _ _ h => kzx_no rfl h)
    have h := h hle
    refine kz_sti (M := kt_M583) [(0, .ref (w_adr E.2.1 12 0)), (5, .int x5)] kX13_typeOut_c10.1 (Nat.le_of_ble_eq_true rfl) ⟨⟨rfl, rfl, .inl rfl⟩, ⟨⟨rfl, rfl, .inr rfl⟩, trivial⟩⟩ rfl ?_
    refine kz_aload_n (M := kt_M583) kX13_typeOut_c10.2.1 rfl ?_
    refine kz_gfc (M := kt_M583) (x := 4104) (c := 12) (o := 0) kX13_typeOut_c10.2.2.1 wf_X13_205 (.inl rfl) ?_
    refine kz_iload (M := kt_M583) kX13_typeOut_c10.2.2.2.1 rfl ?_
    refine kz_iald (M := kt_M583) (c := 12) (o := 0) (k := 32) (a := (E.2.1 4104)) kX13_typeOut_c10.2.2.2.2.1 ow_12_0_32 oa_12_0_32 ot_0 h (fun h => ?_)
    refine kz_sti (M := kt_M583) [(0, .ref (w_adr E.2.1 12 0))] kX13_typeOut_c10.2.2.2.2.2.1 (Nat.le_of_ble_eq_true rfl) ⟨⟨rfl, rfl, .inl rfl⟩, trivial⟩ rfl ?_
    refine kz_goto (M := kt_M583) kX13_typeOut_c10.2.2.2.2.2.2.1 (t := 136) rfl ?_
    exact kz_weak [(0, .ref (w_adr E.2.1 12 0)), (5, .int (w_a w1 12 0 32 (x5).toNatClampNeg))] ⟨rfl, ⟨rfl, trivial⟩⟩ rfl h
def zb_X13_typeOut_p134 (E : zE) (L : Nat) (Q : kx_Rs → wS → Prop) (y0 : Int32) (w : wS) : Prop := zL_X13_typeOut_p136 E L Q y0 w
theorem zt_X13_typeOut_p134 {E : zE} {L : Nat} {Q : kx_Rs → wS → Prop} {y0 : Int32} {w : wS} (hL : 29 ≤ L) (h : zb_X13_typeOut_p134 E L Q y0 w) : kzE E L kt_M583 134 [(0, .ref (w_adr E.2.1 12 0))] [.int y0] w Q := by
  unfold zb_X13_typeOut_p134 at h
  refine kz_sti (M := kt_M583) [(0, .ref (w_adr E.2.1 12 0))] kX13_typeOut_c9.2.2.1 (Nat.le_of_ble_eq_true rfl) ⟨⟨rfl, rfl, .inl rfl⟩, trivial⟩ rfl ?_
  exact kz_weak [(0, .ref (w_adr E.2.1 12 0)), (5, .int y0)] ⟨rfl, ⟨rfl, trivial⟩⟩ rfl h
def zb_X13_typeOut_p133 (E : zE) (L : Nat) (Q : kx_Rs → wS → Prop) (x3 : Int32) (w : wS) : Prop := zb_X13_typeOut_p134 E L Q x3 w
theorem zt_X13_typeOut_p133 {E : zE} {L : Nat} {Q : kx_Rs → wS → Prop} {x3 : Int32} {w : wS} (hL : 29 ≤ L) (h : zb_X13_typeOut_p133 E L Q x3 w) : kzE E L kt_M583 133 [(0, .ref (w_adr E.2.1 12 0)), (3, .int x3)] [] w Q := by
  unfold zb_X13_typeOut_p133 at h
  refine kz_iload_n (M := kt_M583) kX13_typeOut_c9.2.1 rfl ?_
  exact kz_weak [(0, .ref (w_adr E.2.1 12 0))] ⟨rfl, trivial⟩ rfl (zt_X13_typeOut_p134 hL  h)
def zb_X13_typeOut_p95 (E : zE) (L : Nat) (Q : kx_Rs → wS → Prop) (x1 : Int32) (x3 : Int32) (x4 : Int32) (w : wS) : Prop := (kx_inb x1 (w_n w 12 0 27) = true ∧ zw E (L - 22) kt_M560 [.ref (w_adr E.2.1 12 0), .int 7, .int (w_a w 12 0 27 (x1).toNatClampNeg)] w (wk0 (fun w1 => wle w w1 → (if x4 < 0 then zb_X13_typeOut_p133 E L Q x3 w1 else (kx_inb x4 (w_n w1 12 0 46) = true ∧ (if ¬ w_a w1 12 0 46 (x4).toNatClampNeg = 6 then zb_X13_typeOut_p133 E L Q x3 w1 else (kx_inb x3 (w_n w1 12 0 32) = true ∧ zb_X13_typeOut_p134 E L Q (w_a w1 12 0 32 (x3).toNatClampNeg) w1))))) (fun e w => Q (.inr e) w)))
theorem zt_X13_typeOut_p95 {E : zE} {L : Nat} {Q : kx_Rs → wS → Prop} {x1 : Int32} {x3 : Int32} {x4 : Int32} {w : wS} (hL : 29 ≤ L) (h : zb_X13_typeOut_p95 E L Q x1 x3 x4 w) : kzE E L kt_M583 95 [(0, .ref (w_adr E.2.1 12 0)), (1, .int x1), (3, .int x3), (4, .int x4)] [] w Q := by
  unfold zb_X13_typeOut_p95 at h
  refine kz_aload_n (M := kt_M583) kX13_typeOut_c6.2.2.2.2.2.1 rfl ?_
  refine kz_bi (M := kt_M583) 7 kX13_typeOut_c6.2.2.2.2.2.2.1 rfl ?_
  refine kz_aload_n (M := kt_M583) kX13_typeOut_c6.2.2.2.2.2.2.2.1 rfl ?_
  refine kz_gfc (M := kt_M583) (x := 4099) (c := 12) (o := 0) kX13_typeOut_c7.1 wf_X13_190 (.inl rfl) ?_
  refine kz_iload_n (M := kt_M583) kX13_typeOut_c7.2.1 rfl ?_
  refine kz_iald (M := kt_M583) (c := 12) (o := 0) (k := 27) (a := (E.2.1 4099)) kX13_typeOut_c7.2.2.1 ow_12_0_27 oa_12_0_27 ot_0 h (fun h => ?_)
  refine kz_cv0 (M := kt_M583) (c := 12) (o := 0) (As := [.int 7, .int (w_a w 12 0 27 (x1).toNatClampNeg)]) (rest := []) kX13_typeOut_c7.2.2.2.1 wl_X13_734 wMv_560 rfl (.inl rfl) rfl (Nat.le_trans (Nat.le_of_ble_eq_true rfl) hL) (Nat.le_of_ble_eq_true rfl) (Nat.le_of_ble_eq_true rfl) h (fun w1 hle h => ?_) (fun _ _ _ h => kzx_no rfl h)
  have h := h hle
  refine kz_iload (M := kt_M583) kX13_typeOut_c7.2.2.2.2.1 rfl ?_
  refine kz_if_lt (M := kt_M583) kX13_typeOut_c7.2.2.2.2.2.1 (t := 133) rfl h (fun h => ?_) (fun h => ?_)
  · skip
    exact kz_weak [(0, .ref (w_adr E.2.1 12 0)), (3, .int x3)] ⟨rfl, ⟨rfl, trivial⟩⟩ rfl (zt_X13_typeOut_p133 hL  h)
  · skip
    refine kz_aload_n (M := kt_M583) kX13_typeOut_c7.2.2.2.2.2.2.1 rfl ?_
    refine kz_gfc (M := kt_M583) (x := 4118) (c := 12) (o := 0) kX13_typeOut_c7.2.2.2.2.2.2.2.1 wf_X13_223 (.inl rfl) ?_
    refine kz_iload (M := kt_M583) kX13_typeOut_c8.1 rfl ?_
    refine kz_iald (M := kt_M583) (c := 12) (o := 0) (k := 46) (a := (E.2.1 4118)) kX13_typeOut_c8.2.1 ow_12_0_46 oa_12_0_46 ot_0 h (fun h => ?_)
    refine kz_bi (M := kt_M583) 6 kX13_typeOut_c8.2.2.1 rfl ?_
    refine kz_icmp_ne (M := kt_M583) kX13_typeOut_c8.2.2.2.1 (t := 133) rfl h (fun h => ?_) (fun h => ?_)
    · skip
      exact kz_weak [(0, .ref (w_adr E.2.1 12 0)), (3, .int x3)] ⟨rfl, ⟨rfl, trivial⟩⟩ rfl (zt_X13_typeOut_p133 hL  h)
    · skip
      refine kz_aload_n (M := kt_M583) kX13_typeOut_c8.2.2.2.2.1 rfl ?_
      refine kz_gfc (M := kt_M583) (x := 4104) (c := 12) (o := 0) kX13_typeOut_c8.2.2.2.2.2.1 wf_X13_205 (.inl rfl) ?_
      refine kz_iload_n (M := kt_M583) kX13_typeOut_c8.2.2.2.2.2.2.1 rfl ?_
      refine kz_iald (M := kt_M583) (c := 12) (o := 0) (k := 32) (a := (E.2.1 4104)) kX13_typeOut_c8.2.2.2.2.2.2.2.1 ow_12_0_32 oa_12_0_32 ot_0 h (fun h => ?_)
      refine kz_goto (M := kt_M583) kX13_typeOut_c9.1 (t := 134) rfl ?_
      exact kz_weak [(0, .ref (w_adr E.2.1 12 0))] ⟨rfl, trivial⟩ rfl (zt_X13_typeOut_p134 hL  h)
def zb_X13_typeOut_p60 (E : zE) (L : Nat) (Q : kx_Rs → wS → Prop) (x1 : Int32) (x2 : Int32) (x3 : Int32) (y0 : Int32) (w : wS) : Prop := (if y0 < 0 then zb_X13_typeOut_p95 E L Q x1 x3 y0 w else (kx_inb y0 (w_n w 12 0 46) = true ∧ (if ¬ w_a w 12 0 46 (y0).toNatClampNeg = 6 then zb_X13_typeOut_p95 E L Q x1 x3 y0 w else (kx_inb y0 (w_n w 12 0 47) = true ∧ (kx_inb x2 (w_n w 12 0 47) = true ∧ (if w_a w 12 0 47 (y0).toNatClampNeg = w_a w 12 0 47 (x2).toNatClampNeg then (kx_inb x3 (w_n w 12 0 32) = true ∧ (kx_inb y0 (w_n w 12 0 49) = true ∧ (kx_inb (w_a w 12 0 49 (y0).toNatClampNeg) (w_n w 12 0 29) = true ∧ zw E (L - 29) kt_M580 [.ref (w_adr E.2.1 12 0), .int x1, .int (w_a w 12 0 32 (x3).toNatClampNeg), .int (w_a w 12 0 29 (w_a w 12 0 49 (y0).toNatClampNeg).toNatClampNeg), .int (-1)] w (wk0 (fun w1 => wle w w1 → Q (.inl none) w1) (fun e w => Q (.inr e) w))))) else zb_X13_typeOut_p95 E L Q x1 x3 y0 w))))))
theorem zt_X13_typeOut_p60 {E : zE} {L : Nat} {Q : kx_Rs → wS → Prop} {x1 : Int32} {x2 : Int32} {x3 : Int32} {y0 : Int32} {w : wS} (hL : 29 ≤ L) (h : zb_X13_typeOut_p60 E L Q x1 x2 x3 y0 w) : kzE E L kt_M583 60 [(0, .ref (w_adr E.2.1 12 0)), (1, .int x1), (2, .int x2), (3, .int x3)] [.int y0] w Q := by
  unfold zb_X13_typeOut_p60 at h
  refine kz_sti (M := kt_M583) [(0, .ref (w_adr E.2.1 12 0)), (1, .int x1), (2, .int x2), (3, .int x3)] kX13_typeOut_c4.2.2.2.1 (Nat.le_of_ble_eq_true rfl) ⟨⟨rfl, rfl, .inl rfl⟩, ⟨⟨rfl, rfl, .inl rfl⟩, ⟨⟨rfl, rfl, .inl rfl⟩, ⟨⟨rfl, rfl, .inr rfl⟩, trivial⟩⟩⟩⟩ rfl ?_
  refine kz_iload (M := kt_M583) kX13_typeOut_c4.2.2.2.2.1 rfl ?_
  refine kz_if_lt (M := kt_M583) kX13_typeOut_c4.2.2.2.2.2.1 (t := 95) rfl h (fun h => ?_) (fun h => ?_)
  · skip
    exact kz_weak [(0, .ref (w_adr E.2.1 12 0)), (1, .int x1), (3, .int x3), (4, .int y0)] ⟨rfl, ⟨rfl, ⟨rfl, ⟨rfl, trivial⟩⟩⟩⟩ rfl (zt_X13_typeOut_p95 hL  h)
  · skip
    refine kz_aload_n (M := kt_M583) kX13_typeOut_c4.2.2.2.2.2.2.1 rfl ?_
    refine kz_gfc (M := kt_M583) (x := 4118) (c := 12) (o := 0) kX13_typeOut_c4.2.2.2.2.2.2.2.1 wf_X13_223 (.inl rfl) ?_
    refine kz_iload (M := kt_M583) kX13_typeOut_c5.1 rfl ?_
    refine kz_iald (M := kt_M583) (c := 12) (o := 0) (k := 46) (a := (E.2.1 4118)) kX13_typeOut_c5.2.1 ow_12_0_46 oa_12_0_46 ot_0 h (fun h => ?_)
    refine kz_bi (M := kt_M583) 6 kX13_typeOut_c5.2.2.1 rfl ?_
    refine kz_icmp_ne (M := kt_M583) kX13_typeOut_c5.2.2.2.1 (t := 95) rfl h (fun h => ?_) (fun h => ?_)
    · skip
      exact kz_weak [(0, .ref (w_adr E.2.1 12 0)), (1, .int x1), (3, .int x3), (4, .int y0)] ⟨rfl, ⟨rfl, ⟨rfl, ⟨rfl, trivial⟩⟩⟩⟩ rfl (zt_X13_typeOut_p95 hL  h)
    · skip
      refine kz_aload_n (M := kt_M583) kX13_typeOut_c5.2.2.2.2.1 rfl ?_
      refine kz_gfc (M := kt_M583) (x := 4119) (c := 12) (o := 0) kX13_typeOut_c5.2.2.2.2.2.1 wf_X13_226 (.inl rfl) ?_
      refine kz_iload (M := kt_M583) kX13_typeOut_c5.2.2.2.2.2.2.1 rfl ?_
      refine kz_iald (M := kt_M583) (c := 12) (o := 0) (k := 47) (a := (E.2.1 4119)) kX13_typeOut_c5.2.2.2.2.2.2.2.1 ow_12_0_47 oa_12_0_47 ot_0 h (fun h => ?_)
      refine kz_aload_n (M := kt_M583) kX13_typeOut_c6.1 rfl ?_
      refine kz_gfc (M := kt_M583) (x := 4119) (c := 12) (o := 0) kX13_typeOut_c6.2.1 wf_X13_226 (.inl rfl) ?_
      refine kz_iload_n (M := kt_M583) kX13_typeOut_c6.2.2.1 rfl ?_
      refine kz_iald (M := kt_M583) (c := 12) (o := 0) (k := 47) (a := (E.2.1 4119)) kX13_typeOut_c6.2.2.2.1 ow_12_0_47 oa_12_0_47 ot_0 h (fun h => ?_)
      refine kz_icmp_eq (M := kt_M583) kX13_typeOut_c6.2.2.2.2.1 (t := 162) rfl h (fun h => ?_) (fun h => ?_)
      · skip
        refine kz_aload_n (M := kt_M583) kX13_typeOut_c11.1 rfl ?_
        refine kz_iload_n (M := kt_M583) kX13_typeOut_c11.2.1 rfl ?_
        refine kz_aload_n (M := kt_M583) kX13_typeOut_c11.2.2.1 rfl ?_
        refine kz_gfc (M := kt_M583) (x := 4104) (c := 12) (o := 0) kX13_typeOut_c11.2.2.2.1 wf_X13_205 (.inl rfl) ?_
        refine kz_iload_n (M := kt_M583) kX13_typeOut_c11.2.2.2.2.1 rfl ?_
        refine kz_iald (M := kt_M583) (c := 12) (o := 0) (k := 32) (a := (E.2.1 4104)) kX13_typeOut_c11.2.2.2.2.2.1 ow_12_0_32 oa_12_0_32 ot_0 h (fun h => ?_)
        refine kz_aload_n (M := kt_M583) kX13_typeOut_c11.2.2.2.2.2.2.1 rfl ?_
        refine kz_gfc (M := kt_M583) (x := 4101) (c := 12) (o := 0) kX13_typeOut_c11.2.2.2.2.2.2.2.1 wf_X13_196 (.inl rfl) ?_
        refine kz_aload_n (M := kt_M583) kX13_typeOut_c12.1 rfl ?_
        refine kz_gfc (M := kt_M583) (x := 4121) (c := 12) (o := 0) kX13_typeOut_c12.2.1 wf_X13_232 (.inl rfl) ?_
        refine kz_iload (M := kt_M583) kX13_typeOut_c12.2.2.1 rfl ?_
        refine kz_iald (M := kt_M583) (c := 12) (o := 0) (k := 49) (a := (E.2.1 4121)) kX13_typeOut_c12.2.2.2.1 ow_12_0_49 oa_12_0_49 ot_0 h (fun h => ?_)
        refine kz_iald (M := kt_M583) (c := 12) (o := 0) (k := 29) (a := (E.2.1 4101)) kX13_typeOut_c12.2.2.2.2.1 ow_12_0_29 oa_12_0_29 ot_0 h (fun h => ?_)
        refine kz_ic (M := kt_M583) (-1) kX13_typeOut_c12.2.2.2.2.2.1 rfl ?_
        refine kz_cv0 (M := kt_M583) (c := 12) (o := 0) (As := [.int x1, .int (w_a w 12 0 32 (x3).toNatClampNeg), .int (w_a w 12 0 29 (w_a w 12 0 49 (y0).toNatClampNeg).toNatClampNeg), .int (-1)]) (rest := []) kX13_typeOut_c12.2.2.2.2.2.2.1 wl_X13_907 wMv_580 rfl (.inl rfl) rfl (Nat.le_trans (Nat.le_of_ble_eq_true rfl) hL) (Nat.le_of_ble_eq_true rfl) (Nat.le_of_ble_eq_true rfl) h (fun w1 hle h => ?_) (fun _ _ _ h => kzx_no rfl h)
        have h := h hle
        exact kz_ret (M := kt_M583) kX13_typeOut_c12.2.2.2.2.2.2.2.1 rfl h
      · skip
        exact kz_weak [(0, .ref (w_adr E.2.1 12 0)), (1, .int x1), (3, .int x3), (4, .int y0)] ⟨rfl, ⟨rfl, ⟨rfl, ⟨rfl, trivial⟩⟩⟩⟩ rfl (zt_X13_typeOut_p95 hL  h)
def zb_X13_typeOut_p59 (E : zE) (L : Nat) (Q : kx_Rs → wS → Prop) (x1 : Int32) (x2 : Int32) (x3 : Int32) (w : wS) : Prop := zb_X13_typeOut_p60 E L Q x1 x2 x3 (-1) w
theorem zt_X13_typeOut_p59 {E : zE} {L : Nat} {Q : kx_Rs → wS → Prop} {x1 : Int32} {x2 : Int32} {x3 : Int32} {w : wS} (hL : 29 ≤ L) (h : zb_X13_typeOut_p59 E L Q x1 x2 x3 w) : kzE E L kt_M583 59 [(0, .ref (w_adr E.2.1 12 0)), (1, .int x1), (2, .int x2), (3, .int x3)] [] w Q := by
  unfold zb_X13_typeOut_p59 at h
  refine kz_ic (M := kt_M583) (-1) kX13_typeOut_c4.2.2.1 rfl ?_
  exact kz_weak [(0, .ref (w_adr E.2.1 12 0)), (1, .int x1), (2, .int x2), (3, .int x3)] ⟨rfl, ⟨rfl, ⟨rfl, ⟨rfl, trivial⟩⟩⟩⟩ rfl (zt_X13_typeOut_p60 hL  h)
def zb_X13_typeOut_p0 (E : zE) (L : Nat) (Q : kx_Rs → wS → Prop) (x1 : Int32) (w : wS) : Prop := (kx_inb x1 (w_n w 12 0 28) = true ∧ zw E (L - 22) kt_M573 [.ref (w_adr E.2.1 12 0), .int (w_a w 12 0 28 (x1).toNatClampNeg)] w (wk1 (fun v2 w1 => wle w w1 → (kx_inb x1 (w_n w1 12 0 29) = true ∧ (if v2 < 0 then zb_X13_typeOut_p187 E L Q x1 v2 (w_a w1 12 0 29 (x1).toNatClampNeg) w1 else zw E (L - 21) kt_M427 [.ref (w_adr E.2.1 12 0), .int v2] w1 (wk1 (fun v4 w3 => wle w1 w3 → (if v4 = 0 then zb_X13_typeOut_p187 E L Q x1 v2 (w_a w1 12 0 29 (x1).toNatClampNeg) w3 else (kx_inb (w_a w1 12 0 29 (x1).toNatClampNeg) (w_n w3 12 0 26) = true ∧ (if ¬ w_a w3 12 0 26 (w_a w1 12 0 29 (x1).toNatClampNeg).toNatClampNeg = 60 then zb_X13_typeOut_p59 E L Q x1 v2 (w_a w1 12 0 29 (x1).toNatClampNeg) w3 else (kx_inb (w_a w1 12 0 29 (x1).toNatClampNeg) (w_n w3 12 0 28) = true ∧ (if 0 ≤ w_a w3 12 0 28 (w_a w1 12 0 29 (x1).toNatClampNeg).toNatClampNeg then zb_X13_typeOut_p59 E L Q x1 v2 (w_a w1 12 0 29 (x1).toNatClampNeg) w3 else (kx_inb (w_a w1 12 0 29 (x1).toNatClampNeg) (w_n w3 12 0 31) = true ∧ zb_X13_typeOut_p60 E L Q x1 v2 (w_a w1 12 0 29 (x1).toNatClampNeg) (w_a w3 12 0 31 (w_a w1 12 0 29 (x1).toNatClampNeg).toNatClampNeg) w3))))))) (fun e w => Q (.inr e) w))))) (fun e w => Q (.inr e) w)))
theorem zt_X13_typeOut_p0 {E : zE} {L : Nat} {Q : kx_Rs → wS → Prop} {x1 : Int32} {w : wS} (hL : 29 ≤ L) (h : zb_X13_typeOut_p0 E L Q x1 w) : kzE E L kt_M583 0 [(0, .ref (w_adr E.2.1 12 0)), (1, .int x1)] [] w Q := by
  unfold zb_X13_typeOut_p0 at h
  refine kz_aload_n (M := kt_M583) kX13_typeOut_c0.1 rfl ?_
  refine kz_aload_n (M := kt_M583) kX13_typeOut_c0.2.1 rfl ?_
  refine kz_gfc (M := kt_M583) (x := 4100) (c := 12) (o := 0) kX13_typeOut_c0.2.2.1 wf_X13_193 (.inl rfl) ?_
  refine kz_iload_n (M := kt_M583) kX13_typeOut_c0.2.2.2.1 rfl ?_
  refine kz_iald (M := kt_M583) (c := 12) (o := 0) (k := 28) (a := (E.2.1 4100)) kX13_typeOut_c0.2.2.2.2.1 ow_12_0_28 oa_12_0_28 ot_0 h (fun h => ?_)
  refine kz_cv1 (M := kt_M583) (c := 12) (o := 0) (As := [.int (w_a w 12 0 28 (x1).toNatClampNeg)]) (rest := []) kX13_typeOut_c0.2.2.2.2.2.1 wl_X13_901 wMv_573 rfl (.inl rfl) rfl (Nat.le_trans (Nat.le_of_ble_eq_true rfl) hL) (Nat.le_of_ble_eq_true rfl) (Nat.le_of_ble_eq_true rfl) h (fun v2 w1 hle h => ?_) (fun _ _ _ h => kzx_no rfl h)
  have h := h hle
  refine kz_sti_n (M := kt_M583) [(0, .ref (w_adr E.2.1 12 0)), (1, .int x1)] kX13_typeOut_c0.2.2.2.2.2.2.1 (Nat.le_of_ble_eq_true rfl) ⟨⟨rfl, rfl, .inl rfl⟩, ⟨⟨rfl, rfl, .inr rfl⟩, trivial⟩⟩ rfl ?_
  refine kz_aload_n (M := kt_M583) kX13_typeOut_c0.2.2.2.2.2.2.2.1 rfl ?_
  refine kz_gfc (M := kt_M583) (x := 4101) (c := 12) (o := 0) kX13_typeOut_c1.1 wf_X13_196 (.inl rfl) ?_
  refine kz_iload_n (M := kt_M583) kX13_typeOut_c1.2.1 rfl ?_
  refine kz_iald (M := kt_M583) (c := 12) (o := 0) (k := 29) (a := (E.2.1 4101)) kX13_typeOut_c1.2.2.1 ow_12_0_29 oa_12_0_29 ot_0 h (fun h => ?_)
  refine kz_sti_n (M := kt_M583) [(0, .ref (w_adr E.2.1 12 0)), (1, .int x1), (2, .int v2)] kX13_typeOut_c1.2.2.2.1 (Nat.le_of_ble_eq_true rfl) ⟨⟨rfl, rfl, .inl rfl⟩, ⟨⟨rfl, rfl, .inl rfl⟩, ⟨⟨rfl, rfl, .inr rfl⟩, trivial⟩⟩⟩ rfl ?_
  refine kz_iload_n (M := kt_M583) kX13_typeOut_c1.2.2.2.2.1 rfl ?_
  refine kz_if_lt (M := kt_M583) kX13_typeOut_c1.2.2.2.2.2.1 (t := 187) rfl h (fun h => ?_) (fun h => ?_)
  · skip
    exact kz_weak [(0, .ref (w_adr E.2.1 12 0)), (1, .int x1), (2, .int v2), (3, .int (w_a w1 12 0 29 (x1).toNatClampNeg))] ⟨rfl, ⟨rfl, ⟨rfl, ⟨rfl, trivial⟩⟩⟩⟩ rfl (zt_X13_typeOut_p187 hL  h)
  · skip
    refine kz_aload_n (M := kt_M583) kX13_typeOut_c1.2.2.2.2.2.2.1 rfl ?_
    refine kz_iload_n (M := kt_M583) kX13_typeOut_c1.2.2.2.2.2.2.2.1 rfl ?_
    refine kz_cv1 (M := kt_M583) (c := 12) (o := 0) (As := [.int v2]) (rest := []) kX13_typeOut_c2.1 wl_X13_784 wMv_427 rfl (.inl rfl) rfl (Nat.le_trans (Nat.le_of_ble_eq_true rfl) hL) (Nat.le_of_ble_eq_true rfl) (Nat.le_of_ble_eq_true rfl) h (fun v4 w3 hle h => ?_) (fun _ _ _ h => kzx_no rfl h)
    have h := h hle
    refine kz_if_eq (M := kt_M583) kX13_typeOut_c2.2.1 (t := 187) rfl h (fun h => ?_) (fun h => ?_)
    · skip
      exact kz_weak [(0, .ref (w_adr E.2.1 12 0)), (1, .int x1), (2, .int v2), (3, .int (w_a w1 12 0 29 (x1).toNatClampNeg))] ⟨rfl, ⟨rfl, ⟨rfl, ⟨rfl, trivial⟩⟩⟩⟩ rfl (zt_X13_typeOut_p187 hL  h)
    · skip
      refine kz_aload_n (M := kt_M583) kX13_typeOut_c2.2.2.1 rfl ?_
      refine kz_gfc (M := kt_M583) (x := 4098) (c := 12) (o := 0) kX13_typeOut_c2.2.2.2.1 wf_X13_187 (.inl rfl) ?_
      refine kz_iload_n (M := kt_M583) kX13_typeOut_c2.2.2.2.2.1 rfl ?_
      refine kz_iald (M := kt_M583) (c := 12) (o := 0) (k := 26) (a := (E.2.1 4098)) kX13_typeOut_c2.2.2.2.2.2.1 ow_12_0_26 oa_12_0_26 ot_0 h (fun h => ?_)
      refine kz_bi (M := kt_M583) 60 kX13_typeOut_c2.2.2.2.2.2.2.1 rfl ?_
      refine kz_icmp_ne (M := kt_M583) kX13_typeOut_c2.2.2.2.2.2.2.2.1 (t := 59) rfl h (fun h => ?_) (fun h => ?_)
      · skip
        exact kz_weak [(0, .ref (w_adr E.2.1 12 0)), (1, .int x1), (2, .int v2), (3, .int (w_a w1 12 0 29 (x1).toNatClampNeg))] ⟨rfl, ⟨rfl, ⟨rfl, ⟨rfl, trivial⟩⟩⟩⟩ rfl (zt_X13_typeOut_p59 hL  h)
      · skip
        refine kz_aload_n (M := kt_M583) kX13_typeOut_c3.1 rfl ?_
        refine kz_gfc (M := kt_M583) (x := 4100) (c := 12) (o := 0) kX13_typeOut_c3.2.1 wf_X13_193 (.inl rfl) ?_
        refine kz_iload_n (M := kt_M583) kX13_typeOut_c3.2.2.1 rfl ?_
        refine kz_iald (M := kt_M583) (c := 12) (o := 0) (k := 28) (a := (E.2.1 4100)) kX13_typeOut_c3.2.2.2.1 ow_12_0_28 oa_12_0_28 ot_0 h (fun h => ?_)
        refine kz_if_ge (M := kt_M583) kX13_typeOut_c3.2.2.2.2.1 (t := 59) rfl h (fun h => ?_) (fun h => ?_)
        · skip
          exact kz_weak [(0, .ref (w_adr E.2.1 12 0)), (1, .int x1), (2, .int v2), (3, .int (w_a w1 12 0 29 (x1).toNatClampNeg))] ⟨rfl, ⟨rfl, ⟨rfl, ⟨rfl, trivial⟩⟩⟩⟩ rfl (zt_X13_typeOut_p59 hL  h)
        · skip
          refine kz_aload_n (M := kt_M583) kX13_typeOut_c3.2.2.2.2.2.1 rfl ?_
          refine kz_gfc (M := kt_M583) (x := 4103) (c := 12) (o := 0) kX13_typeOut_c3.2.2.2.2.2.2.1 wf_X13_202 (.inl rfl) ?_
          refine kz_iload_n (M := kt_M583) kX13_typeOut_c3.2.2.2.2.2.2.2.1 rfl ?_
          refine kz_iald (M := kt_M583) (c := 12) (o := 0) (k := 31) (a := (E.2.1 4103)) kX13_typeOut_c4.1 ow_12_0_31 oa_12_0_31 ot_0 h (fun h => ?_)
          refine kz_goto (M := kt_M583) kX13_typeOut_c4.2.1 (t := 60) rfl ?_
          exact kz_weak [(0, .ref (w_adr E.2.1 12 0)), (1, .int x1), (2, .int v2), (3, .int (w_a w1 12 0 29 (x1).toNatClampNeg))] ⟨rfl, ⟨rfl, ⟨rfl, ⟨rfl, trivial⟩⟩⟩⟩ rfl (zt_X13_typeOut_p60 hL  h)
def zL_X13_typeCase_p62 (E : zE) (L : Nat) (Q : kx_Rs → wS → Prop) (x1 : Int32) (x2 : Int32) (x3 : Int32) (x4 : Int32) (w : wS) : Prop := kzE E L kt_M572 62 [(0, .ref (w_adr E.2.1 12 0)), (1, .int x1), (2, .int x2), (3, .int x3), (4, .int x4)] [] w Q
def zL_X13_typeCase_p50 (E : zE) (L : Nat) (Q : kx_Rs → wS → Prop) (x1 : Int32) (x2 : Int32) (x3 : Int32) (w : wS) : Prop := kzE E L kt_M572 50 [(0, .ref (w_adr E.2.1 12 0)), (1, .int x1), (2, .int x2), (3, .int x3)] [] w Q
def zb_X13_typeCase_p183 (E : zE) (L : Nat) (Q : kx_Rs → wS → Prop) (x1 : Int32) (x2 : Int32) (x3 : Int32) (x4 : Int32) (w : wS) : Prop := (kx_inb x4 (w_n w 12 0 32) = true ∧ zL_X13_typeCase_p62 E L Q x1 x2 x3 (w_a w 12 0 32 (x4).toNatClampNeg) w)
theorem zt_X13_typeCase_p183 {E : zE} {L : Nat} {Q : kx_Rs → wS → Prop} {x1 : Int32} {x2 : Int32} {x3 : Int32} {x4 : Int32} {w : wS} (hL : 25 ≤ L) (h : zb_X13_typeCase_p183 E L Q x1 x2 x3 x4 w) : kzE E L kt_M572 183 [(0, .ref (w_adr E.2.1 12 0)), (1, .int x1), (2, .int x2), (3, .int x3), (4, .int x4)] [] w Q := by
  unfold zb_X13_typeCase_p183 at h
  refine kz_aload_n (M := kt_M572) kX13_typeCase_c12.2.2.1 rfl ?_
  refine kz_gfc (M := kt_M572) (x := 4104) (c := 12) (o := 0) kX13_typeCase_c12.2.2.2.1 wf_X13_205 (.inl rfl) ?_
  refine kz_iload (M := kt_M572) kX13_typeCase_c12.2.2.2.2.1 rfl ?_
  refine kz_iald (M := kt_M572) (c := 12) (o := 0) (k := 32) (a := (E.2.1 4104)) kX13_typeCase_c12.2.2.2.2.2.1 ow_12_0_32 oa_12_0_32 ot_0 h (fun h => ?_)
  refine kz_sti (M := kt_M572) [(0, .ref (w_adr E.2.1 12 0)), (1, .int x1), (2, .int x2), (3, .int x3)] kX13_typeCase_c12.2.2.2.2.2.2.1 (Nat.le_of_ble_eq_true rfl) ⟨⟨rfl, rfl, .inl rfl⟩, ⟨⟨rfl, rfl, .inl rfl⟩, ⟨⟨rfl, rfl, .inl rfl⟩, ⟨⟨rfl, rfl, .inr rfl⟩, trivial⟩⟩⟩⟩ rfl ?_
  refine kz_goto (M := kt_M572) kX13_typeCase_c12.2.2.2.2.2.2.2.1 (t := 62) rfl ?_
  exact kz_weak [(0, .ref (w_adr E.2.1 12 0)), (1, .int x1), (2, .int x2), (3, .int x3), (4, .int (w_a w 12 0 32 (x4).toNatClampNeg))] ⟨rfl, ⟨rfl, ⟨rfl, ⟨rfl, ⟨rfl, trivial⟩⟩⟩⟩⟩ rfl h
def zb_X13_typeCase_p140 (E : zE) (L : Nat) (Q : kx_Rs → wS → Prop) (x1 : Int32) (x2 : Int32) (x3 : Int32) (x4 : Int32) (w : wS) : Prop := (kx_inb x4 (w_n w 12 0 27) = true ∧ zw E (L - 22) kt_M560 [.ref (w_adr E.2.1 12 0), .int 9, .int (w_a w 12 0 27 (x4).toNatClampNeg)] w (wk0 (fun w1 => wle w w1 → zb_X13_typeCase_p183 E L Q x1 x2 x3 x4 w1) (fun e w => Q (.inr e) w)))
theorem zt_X13_typeCase_p140 {E : zE} {L : Nat} {Q : kx_Rs → wS → Prop} {x1 : Int32} {x2 : Int32} {x3 : Int32} {x4 : Int32} {w : wS} (hL : 25 ≤ L) (h : zb_X13_typeCase_p140 E L Q x1 x2 x3 x4 w) : kzE E L kt_M572 140 [(0, .ref (w_adr E.2.1 12 0)), (1, .int x1), (2, .int x2), (3, .int x3), (4, .int x4)] [] w Q := by
  unfold zb_X13_typeCase_p140 at h
  refine kz_aload_n (M := kt_M572) kX13_typeCase_c9.2.2.2.2.1 rfl ?_
  refine kz_bi (M := kt_M572) 9 kX13_typeCase_c9.2.2.2.2.2.1 rfl ?_
  refine kz_aload_n (M := kt_M572) kX13_typeCase_c9.2.2.2.2.2.2.1 rfl ?_
  refine kz_gfc (M := kt_M572) (x := 4099) (c := 12) (o := 0) kX13_typeCase_c9.2.2.2.2.2.2.2.1 wf_X13_190 (.inl rfl) ?_
  refine kz_iload (M := kt_M572) kX13_typeCase_c10.1 rfl ?_
  refine kz_iald (M := kt_M572) (c := 12) (o := 0) (k := 27) (a := (E.2.1 4099)) kX13_typeCase_c10.2.1 ow_12_0_27 oa_12_0_27 ot_0 h (fun h => ?_)
  refine kz_cv0 (M := kt_M572) (c := 12) (o := 0) (As := [.int 9, .int (w_a w 12 0 27 (x4).toNatClampNeg)]) (rest := []) kX13_typeCase_c10.2.2.1 wl_X13_734 wMv_560 rfl (.inl rfl) rfl (Nat.le_trans (Nat.le_of_ble_eq_true rfl) hL) (Nat.le_of_ble_eq_true rfl) (Nat.le_of_ble_eq_true rfl) h (fun w1 hle h => ?_) (fun _ _ _ h => kzx_no rfl h)
  have h := h hle
  refine kz_goto (M := kt_M572) kX13_typeCase_c10.2.2.2.1 (t := 183) rfl ?_
  exact kz_weak [(0, .ref (w_adr E.2.1 12 0)), (1, .int x1), (2, .int x2), (3, .int x3), (4, .int x4)] ⟨rfl, ⟨rfl, ⟨rfl, ⟨rfl, ⟨rfl, trivial⟩⟩⟩⟩⟩ rfl (zt_X13_typeCase_p183 hL  h)
def zb_X13_typeCase_p122 (E : zE) (L : Nat) (Q : kx_Rs → wS → Prop) (x1 : Int32) (x2 : Int32) (x3 : Int32) (x4 : Int32) (w : wS) : Prop := zw E (L - 23) kt_M440 [.ref (w_adr E.2.1 12 0), .int x4] w (wk1 (fun v2 w1 => wle w w1 → (if v2 = 0 then zb_X13_typeCase_p140 E L Q x1 x2 x3 x4 w1 else zw E (L - 23) kt_M428 [.ref (w_adr E.2.1 12 0), .int x4] w1 (wk1 (fun v4 w3 => wle w1 w3 → (if ¬ v4 = 0 then zw E (L - 25) kt_M447 [.ref (w_adr E.2.1 12 0), .int x1, .int x4, .int (w_i w3 12 0 24)] w3 (wk1 (fun v6 w5 => wle w3 w5 → (if v6 = 0 then zb_X13_typeCase_p183 E L Q x1 x2 x3 x4 w5 else (kx_inb x4 (w_n w5 12 0 27) = true ∧ zw E (L - 22) kt_M560 [.ref (w_adr E.2.1 12 0), .int 10, .int (w_a w5 12 0 27 (x4).toNatClampNeg)] w5 (wk0 (fun w7 => wle w5 w7 → zb_X13_typeCase_p183 E L Q x1 x2 x3 x4 w7) (fun e w => Q (.inr e) w))))) (fun e w => Q (.inr e) w)) else zb_X13_typeCase_p140 E L Q x1 x2 x3 x4 w3)) (fun e w => Q (.inr e) w)))) (fun e w => Q (.inr e) w))
theorem zt_X13_typeCase_p122 {E : zE} {L : Nat} {Q : kx_Rs → wS → Prop} {x1 : Int32} {x2 : Int32} {x3 : Int32} {x4 : Int32} {w : wS} (hL : 25 ≤ L) (h : zb_X13_typeCase_p122 E L Q x1 x2 x3 x4 w) : kzE E L kt_M572 122 [(0, .ref (w_adr E.2.1 12 0)), (1, .int x1), (2, .int x2), (3, .int x3), (4, .int x4)] [] w Q := by
  unfold zb_X13_typeCase_p122 at h
  refine kz_aload_n (M := kt_M572) kX13_typeCase_c8.2.2.2.2.1 rfl ?_
  refine kz_iload (M := kt_M572) kX13_typeCase_c8.2.2.2.2.2.1 rfl ?_
  refine kz_cv1 (M := kt_M572) (c := 12) (o := 0) (As := [.int x4]) (rest := []) kX13_typeCase_c8.2.2.2.2.2.2.1 wl_X13_816 wMv_440 rfl (.inl rfl) rfl (Nat.le_trans (Nat.le_of_ble_eq_true rfl) hL) (Nat.le_of_ble_eq_true rfl) (Nat.le_of_ble_eq_true rfl) h (fun v2 w1 hle h => ?_) (fun _ _ _ h => kzx_no rfl h)
  have h := h hle
  refine kz_if_eq (M := kt_M572) kX13_typeCase_c8.2.2.2.2.2.2.2.1 (t := 140) rfl h (fun h => ?_) (fun h => ?_)
  · skip
    exact kz_weak [(0, .ref (w_adr E.2.1 12 0)), (1, .int x1), (2, .int x2), (3, .int x3), (4, .int x4)] ⟨rfl, ⟨rfl, ⟨rfl, ⟨rfl, ⟨rfl, trivial⟩⟩⟩⟩⟩ rfl (zt_X13_typeCase_p140 hL  h)
  · skip
    refine kz_aload_n (M := kt_M572) kX13_typeCase_c9.1 rfl ?_
    refine kz_iload (M := kt_M572) kX13_typeCase_c9.2.1 rfl ?_
    refine kz_cv1 (M := kt_M572) (c := 12) (o := 0) (As := [.int x4]) (rest := []) kX13_typeCase_c9.2.2.1 wl_X13_846 wMv_428 rfl (.inl rfl) rfl (Nat.le_trans (Nat.le_of_ble_eq_true rfl) hL) (Nat.le_of_ble_eq_true rfl) (Nat.le_of_ble_eq_true rfl) h (fun v4 w3 hle h => ?_) (fun _ _ _ h => kzx_no rfl h)
    have h := h hle
    refine kz_if_ne (M := kt_M572) kX13_typeCase_c9.2.2.2.1 (t := 156) rfl h (fun h => ?_) (fun h => ?_)
    · skip
      refine kz_aload_n (M := kt_M572) kX13_typeCase_c10.2.2.2.2.1 rfl ?_
      refine kz_iload_n (M := kt_M572) kX13_typeCase_c10.2.2.2.2.2.1 rfl ?_
      refine kz_iload (M := kt_M572) kX13_typeCase_c10.2.2.2.2.2.2.1 rfl ?_
      refine kz_aload_n (M := kt_M572) kX13_typeCase_c10.2.2.2.2.2.2.2.1 rfl ?_
      refine kz_gfi (M := kt_M572) (c := 12) (o := 0) kX13_typeCase_c11.1 wf_X13_493 (.inl rfl) ?_
      refine kz_cv1 (M := kt_M572) (c := 12) (o := 0) (As := [.int x1, .int x4, .int (w_i w3 12 0 24)]) (rest := []) kX13_typeCase_c11.2.1 wl_X13_971 wMv_447 rfl (.inl rfl) rfl (Nat.le_trans (Nat.le_of_ble_eq_true rfl) hL) (Nat.le_of_ble_eq_true rfl) (Nat.le_of_ble_eq_true rfl) h (fun v6 w5 hle h => ?_) (fun _ _ _ h => kzx_no rfl h)
      have h := h hle
      refine kz_if_eq (M := kt_M572) kX13_typeCase_c11.2.2.1 (t := 183) rfl h (fun h => ?_) (fun h => ?_)
      · skip
        exact kz_weak [(0, .ref (w_adr E.2.1 12 0)), (1, .int x1), (2, .int x2), (3, .int x3), (4, .int x4)] ⟨rfl, ⟨rfl, ⟨rfl, ⟨rfl, ⟨rfl, trivial⟩⟩⟩⟩⟩ rfl (zt_X13_typeCase_p183 hL  h)
      · skip
        refine kz_aload_n (M := kt_M572) kX13_typeCase_c11.2.2.2.1 rfl ?_
        refine kz_bi (M := kt_M572) 10 kX13_typeCase_c11.2.2.2.2.1 rfl ?_
        refine kz_aload_n (M := kt_M572) kX13_typeCase_c11.2.2.2.2.2.1 rfl ?_
        refine kz_gfc (M := kt_M572) (x := 4099) (c := 12) (o := 0) kX13_typeCase_c11.2.2.2.2.2.2.1 wf_X13_190 (.inl rfl) ?_
        refine kz_iload (M := kt_M572) kX13_typeCase_c11.2.2.2.2.2.2.2.1 rfl ?_
        refine kz_iald (M := kt_M572) (c := 12) (o := 0) (k := 27) (a := (E.2.1 4099)) kX13_typeCase_c12.1 ow_12_0_27 oa_12_0_27 ot_0 h (fun h => ?_)
        refine kz_cv0 (M := kt_M572) (c := 12) (o := 0) (As := [.int 10, .int (w_a w5 12 0 27 (x4).toNatClampNeg)]) (rest := []) kX13_typeCase_c12.2.1 wl_X13_734 wMv_560 rfl (.inl rfl) rfl (Nat.le_trans (Nat.le_of_ble_eq_true rfl) hL) (Nat.le_of_ble_eq_true rfl) (Nat.le_of_ble_eq_true rfl) h (fun w7 hle h => ?_) (fun _ _ _ h => kzx_no rfl h)
        have h := h hle
        exact kz_weak [(0, .ref (w_adr E.2.1 12 0)), (1, .int x1), (2, .int x2), (3, .int x3), (4, .int x4)] ⟨rfl, ⟨rfl, ⟨rfl, ⟨rfl, ⟨rfl, trivial⟩⟩⟩⟩⟩ rfl (zt_X13_typeCase_p183 hL  h)
    · skip
      exact kz_weak [(0, .ref (w_adr E.2.1 12 0)), (1, .int x1), (2, .int x2), (3, .int x3), (4, .int x4)] ⟨rfl, ⟨rfl, ⟨rfl, ⟨rfl, ⟨rfl, trivial⟩⟩⟩⟩⟩ rfl (zt_X13_typeCase_p140 hL  h)
def zb_X13_typeCase_p106 (E : zE) (L : Nat) (Q : kx_Rs → wS → Prop) (x1 : Int32) (x2 : Int32) (x3 : Int32) (x4 : Int32) (w : wS) : Prop := (kx_inb x4 (w_n w 12 0 27) = true ∧ zw E (L - 22) kt_M560 [.ref (w_adr E.2.1 12 0), .int 7, .int (w_a w 12 0 27 (x4).toNatClampNeg)] w (wk0 (fun w1 => wle w w1 → zb_X13_typeCase_p183 E L Q x1 x2 x3 x4 w1) (fun e w => Q (.inr e) w)))
theorem zt_X13_typeCase_p106 {E : zE} {L : Nat} {Q : kx_Rs → wS → Prop} {x1 : Int32} {x2 : Int32} {x3 : Int32} {x4 : Int32} {w : wS} (hL : 25 ≤ L) (h : zb_X13_typeCase_p106 E L Q x1 x2 x3 x4 w) : kzE E L kt_M572 106 [(0, .ref (w_adr E.2.1 12 0)), (1, .int x1), (2, .int x2), (3, .int x3), (4, .int x4)] [] w Q := by
  unfold zb_X13_typeCase_p106 at h
  refine kz_aload_n (M := kt_M572) kX13_typeCase_c7.2.2.2.2.1 rfl ?_
  refine kz_bi (M := kt_M572) 7 kX13_typeCase_c7.2.2.2.2.2.1 rfl ?_
  refine kz_aload_n (M := kt_M572) kX13_typeCase_c7.2.2.2.2.2.2.1 rfl ?_
  refine kz_gfc (M := kt_M572) (x := 4099) (c := 12) (o := 0) kX13_typeCase_c7.2.2.2.2.2.2.2.1 wf_X13_190 (.inl rfl) ?_
  refine kz_iload (M := kt_M572) kX13_typeCase_c8.1 rfl ?_
  refine kz_iald (M := kt_M572) (c := 12) (o := 0) (k := 27) (a := (E.2.1 4099)) kX13_typeCase_c8.2.1 ow_12_0_27 oa_12_0_27 ot_0 h (fun h => ?_)
  refine kz_cv0 (M := kt_M572) (c := 12) (o := 0) (As := [.int 7, .int (w_a w 12 0 27 (x4).toNatClampNeg)]) (rest := []) kX13_typeCase_c8.2.2.1 wl_X13_734 wMv_560 rfl (.inl rfl) rfl (Nat.le_trans (Nat.le_of_ble_eq_true rfl) hL) (Nat.le_of_ble_eq_true rfl) (Nat.le_of_ble_eq_true rfl) h (fun w1 hle h => ?_) (fun _ _ _ h => kzx_no rfl h)
  have h := h hle
  refine kz_goto (M := kt_M572) kX13_typeCase_c8.2.2.2.1 (t := 183) rfl ?_
  exact kz_weak [(0, .ref (w_adr E.2.1 12 0)), (1, .int x1), (2, .int x2), (3, .int x3), (4, .int x4)] ⟨rfl, ⟨rfl, ⟨rfl, ⟨rfl, ⟨rfl, trivial⟩⟩⟩⟩⟩ rfl (zt_X13_typeCase_p183 hL  h)
def zb_X13_typeCase_p62 (E : zE) (L : Nat) (Q : kx_Rs → wS → Prop) (x1 : Int32) (x2 : Int32) (x3 : Int32) (x4 : Int32) (w : wS) : Prop := (if x4 < 0 then (kx_inb x3 (w_n w 12 0 29) = true ∧ zw E (L - 21) kt_M571 [.ref (w_adr E.2.1 12 0), .int (w_a w 12 0 29 (x3).toNatClampNeg)] w (wk0 (fun w1 => wle w w1 → (kx_inb x3 (w_n w1 12 0 32) = true ∧ zL_X13_typeCase_p50 E L Q x1 x2 (w_a w1 12 0 32 (x3).toNatClampNeg) w1)) (fun e w => Q (.inr e) w))) else zw E (L - 23) kt_M576 [.ref (w_adr E.2.1 12 0), .int x4] w (wk1 (fun v4 w3 => wle w w3 → (if v4 = (-1) then zb_X13_typeCase_p122 E L Q x1 x2 x3 x4 w3 else (if ¬ w_i w3 12 0 73 = (-1) then zb_X13_typeCase_p106 E L Q x1 x2 x3 x4 w3 else (if 1 < v4 then zb_X13_typeCase_p106 E L Q x1 x2 x3 x4 w3 else (if x2 = (-1) then zb_X13_typeCase_p122 E L Q x1 x2 x3 x4 w3 else (if v4 = x2 then zb_X13_typeCase_p122 E L Q x1 x2 x3 x4 w3 else zb_X13_typeCase_p106 E L Q x1 x2 x3 x4 w3)))))) (fun e w => Q (.inr e) w)))
theorem zt_X13_typeCase_p62 {E : zE} {L : Nat} {Q : kx_Rs → wS → Prop} {x1 : Int32} {x2 : Int32} {x3 : Int32} {x4 : Int32} {w : wS} (hL : 25 ≤ L) (h : zb_X13_typeCase_p62 E L Q x1 x2 x3 x4 w) : kzE E L kt_M572 62 [(0, .ref (w_adr E.2.1 12 0)), (1, .int x1), (2, .int x2), (3, .int x3), (4, .int x4)] [] w Q := by
  unfold zb_X13_typeCase_p62 at h
  refine kz_iload (M := kt_M572) kX13_typeCase_c4.2.2.2.2.2.2.1 rfl ?_
  refine kz_if_lt (M := kt_M572) kX13_typeCase_c4.2.2.2.2.2.2.2.1 (t := 195) rfl h (fun h => ?_) (fun h => ?_)
  · skip
    refine kz_aload_n (M := kt_M572) kX13_typeCase_c13.1 rfl ?_
    refine kz_aload_n (M := kt_M572) kX13_typeCase_c13.2.1 rfl ?_
    refine kz_gfc (M := kt_M572) (x := 4101) (c := 12) (o := 0) kX13_typeCase_c13.2.2.1 wf_X13_196 (.inl rfl) ?_
    refine kz_iload_n (M := kt_M572) kX13_typeCase_c13.2.2.2.1 rfl ?_
    refine kz_iald (M := kt_M572) (c := 12) (o := 0) (k := 29) (a := (E.2.1 4101)) kX13_typeCase_c13.2.2.2.2.1 ow_12_0_29 oa_12_0_29 ot_0 h (fun h => ?_)
    refine kz_cv0 (M := kt_M572) (c := 12) (o := 0) (As := [.int (w_a w 12 0 29 (x3).toNatClampNeg)]) (rest := []) kX13_typeCase_c13.2.2.2.2.2.1 wl_X13_910 wMv_571 rfl (.inl rfl) rfl (Nat.le_trans (Nat.le_of_ble_eq_true rfl) hL) (Nat.le_of_ble_eq_true rfl) (Nat.le_of_ble_eq_true rfl) h (fun w1 hle h => ?_) (fun _ _ _ h => kzx_no rfl h)
    have h := h hle
    refine kz_aload_n (M := kt_M572) kX13_typeCase_c13.2.2.2.2.2.2.1 rfl ?_
    refine kz_gfc (M := kt_M572) (x := 4104) (c := 12) (o := 0) kX13_typeCase_c13.2.2.2.2.2.2.2.1 wf_X13_205 (.inl rfl) ?_
    refine kz_iload_n (M := kt_M572) kX13_typeCase_c14.1 rfl ?_
    refine kz_iald (M := kt_M572) (c := 12) (o := 0) (k := 32) (a := (E.2.1 4104)) kX13_typeCase_c14.2.1 ow_12_0_32 oa_12_0_32 ot_0 h (fun h => ?_)
    refine kz_sti_n (M := kt_M572) [(0, .ref (w_adr E.2.1 12 0)), (1, .int x1), (2, .int x2)] kX13_typeCase_c14.2.2.1 (Nat.le_of_ble_eq_true rfl) ⟨⟨rfl, rfl, .inl rfl⟩, ⟨⟨rfl, rfl, .inl rfl⟩, ⟨⟨rfl, rfl, .inr rfl⟩, trivial⟩⟩⟩ rfl ?_
    refine kz_goto (M := kt_M572) kX13_typeCase_c14.2.2.2.1 (t := 50) rfl ?_
    exact kz_weak [(0, .ref (w_adr E.2.1 12 0)), (1, .int x1), (2, .int x2), (3, .int (w_a w1 12 0 32 (x3).toNatClampNeg))] ⟨rfl, ⟨rfl, ⟨rfl, ⟨rfl, trivial⟩⟩⟩⟩ rfl h
  · skip
    refine kz_aload_n (M := kt_M572) kX13_typeCase_c5.1 rfl ?_
    refine kz_iload (M := kt_M572) kX13_typeCase_c5.2.1 rfl ?_
    refine kz_cv1 (M := kt_M572) (c := 12) (o := 0) (As := [.int x4]) (rest := []) kX13_typeCase_c5.2.2.1 wl_X13_853 wMv_576 rfl (.inl rfl) rfl (Nat.le_trans (Nat.le_of_ble_eq_true rfl) hL) (Nat.le_of_ble_eq_true rfl) (Nat.le_of_ble_eq_true rfl) h (fun v4 w3 hle h => ?_) (fun _ _ _ h => kzx_no rfl h)
    have h := h hle
    refine kz_sti (M := kt_M572) [(0, .ref (w_adr E.2.1 12 0)), (1, .int x1), (2, .int x2), (3, .int x3), (4, .int x4)] kX13_typeCase_c5.2.2.2.1 (Nat.le_of_ble_eq_true rfl) ⟨⟨rfl, rfl, .inl rfl⟩, ⟨⟨rfl, rfl, .inl rfl⟩, ⟨⟨rfl, rfl, .inl rfl⟩, ⟨⟨rfl, rfl, .inl rfl⟩, ⟨⟨rfl, rfl, .inr rfl⟩, trivial⟩⟩⟩⟩⟩ rfl ?_
    refine kz_iload (M := kt_M572) kX13_typeCase_c5.2.2.2.2.1 rfl ?_
    refine kz_ic (M := kt_M572) (-1) kX13_typeCase_c5.2.2.2.2.2.1 rfl ?_
    refine kz_icmp_eq (M := kt_M572) kX13_typeCase_c5.2.2.2.2.2.2.1 (t := 122) rfl h (fun h => ?_) (fun h => ?_)
    · skip
      exact kz_weak [(0, .ref (w_adr E.2.1 12 0)), (1, .int x1), (2, .int x2), (3, .int x3), (4, .int x4)] ⟨rfl, ⟨rfl, ⟨rfl, ⟨rfl, ⟨rfl, trivial⟩⟩⟩⟩⟩ rfl (zt_X13_typeCase_p122 hL  h)
    · skip
      refine kz_aload_n (M := kt_M572) kX13_typeCase_c5.2.2.2.2.2.2.2.1 rfl ?_
      refine kz_gfi (M := kt_M572) (c := 12) (o := 0) kX13_typeCase_c6.1 wf_X13_859 (.inl rfl) ?_
      refine kz_ic (M := kt_M572) (-1) kX13_typeCase_c6.2.1 rfl ?_
      refine kz_icmp_ne (M := kt_M572) kX13_typeCase_c6.2.2.1 (t := 106) rfl h (fun h => ?_) (fun h => ?_)
      · skip
        exact kz_weak [(0, .ref (w_adr E.2.1 12 0)), (1, .int x1), (2, .int x2), (3, .int x3), (4, .int x4)] ⟨rfl, ⟨rfl, ⟨rfl, ⟨rfl, ⟨rfl, trivial⟩⟩⟩⟩⟩ rfl (zt_X13_typeCase_p106 hL  h)
      · skip
        refine kz_iload (M := kt_M572) kX13_typeCase_c6.2.2.2.1 rfl ?_
        refine kz_ic (M := kt_M572) 1 kX13_typeCase_c6.2.2.2.2.1 rfl ?_
        refine kz_icmp_gt (M := kt_M572) kX13_typeCase_c6.2.2.2.2.2.1 (t := 106) rfl h (fun h => ?_) (fun h => ?_)
        · skip
          exact kz_weak [(0, .ref (w_adr E.2.1 12 0)), (1, .int x1), (2, .int x2), (3, .int x3), (4, .int x4)] ⟨rfl, ⟨rfl, ⟨rfl, ⟨rfl, ⟨rfl, trivial⟩⟩⟩⟩⟩ rfl (zt_X13_typeCase_p106 hL  h)
        · skip
          refine kz_iload_n (M := kt_M572) kX13_typeCase_c6.2.2.2.2.2.2.1 rfl ?_
          refine kz_ic (M := kt_M572) (-1) kX13_typeCase_c6.2.2.2.2.2.2.2.1 rfl ?_
          refine kz_icmp_eq (M := kt_M572) kX13_typeCase_c7.1 (t := 122) rfl h (fun h => ?_) (fun h => ?_)
          · skip
            exact kz_weak [(0, .ref (w_adr E.2.1 12 0)), (1, .int x1), (2, .int x2), (3, .int x3), (4, .int x4)] ⟨rfl, ⟨rfl, ⟨rfl, ⟨rfl, ⟨rfl, trivial⟩⟩⟩⟩⟩ rfl (zt_X13_typeCase_p122 hL  h)
          · skip
            refine kz_iload (M := kt_M572) kX13_typeCase_c7.2.1 rfl ?_
            refine kz_iload_n (M := kt_M572) kX13_typeCase_c7.2.2.1 rfl ?_
            refine kz_icmp_eq (M := kt_M572) kX13_typeCase_c7.2.2.2.1 (t := 122) rfl h (fun h => ?_) (fun h => ?_)
            · skip
              exact kz_weak [(0, .ref (w_adr E.2.1 12 0)), (1, .int x1), (2, .int x2), (3, .int x3), (4, .int x4)] ⟨rfl, ⟨rfl, ⟨rfl, ⟨rfl, ⟨rfl, trivial⟩⟩⟩⟩⟩ rfl (zt_X13_typeCase_p122 hL  h)
            · skip
              exact kz_weak [(0, .ref (w_adr E.2.1 12 0)), (1, .int x1), (2, .int x2), (3, .int x3), (4, .int x4)] ⟨rfl, ⟨rfl, ⟨rfl, ⟨rfl, ⟨rfl, trivial⟩⟩⟩⟩⟩ rfl (zt_X13_typeCase_p106 hL  h)
def zb_X13_typeCase_p50 (E : zE) (L : Nat) (Q : kx_Rs → wS → Prop) (x1 : Int32) (x2 : Int32) (x3 : Int32) (w : wS) : Prop := (if x3 < 0 then Q (.inl none) w else (kx_inb x3 (w_n w 12 0 28) = true ∧ zL_X13_typeCase_p62 E L Q x1 x2 x3 (w_a w 12 0 28 (x3).toNatClampNeg) w))
theorem zt_X13_typeCase_p50 {E : zE} {L : Nat} {Q : kx_Rs → wS → Prop} {x1 : Int32} {x2 : Int32} {x3 : Int32} {w : wS} (hL : 25 ≤ L) (h : zb_X13_typeCase_p50 E L Q x1 x2 x3 w) : kzE E L kt_M572 50 [(0, .ref (w_adr E.2.1 12 0)), (1, .int x1), (2, .int x2), (3, .int x3)] [] w Q := by
  unfold zb_X13_typeCase_p50 at h
  refine kz_iload_n (M := kt_M572) kX13_typeCase_c3.2.2.2.2.2.2.2.1 rfl ?_
  refine kz_if_lt (M := kt_M572) kX13_typeCase_c4.1 (t := 215) rfl h (fun h => ?_) (fun h => ?_)
  · skip
    exact kz_ret (M := kt_M572) kX13_typeCase_c14.2.2.2.2.1 rfl h
  · skip
    refine kz_aload_n (M := kt_M572) kX13_typeCase_c4.2.1 rfl ?_
    refine kz_gfc (M := kt_M572) (x := 4100) (c := 12) (o := 0) kX13_typeCase_c4.2.2.1 wf_X13_193 (.inl rfl) ?_
    refine kz_iload_n (M := kt_M572) kX13_typeCase_c4.2.2.2.1 rfl ?_
    refine kz_iald (M := kt_M572) (c := 12) (o := 0) (k := 28) (a := (E.2.1 4100)) kX13_typeCase_c4.2.2.2.2.1 ow_12_0_28 oa_12_0_28 ot_0 h (fun h => ?_)
    refine kz_sti (M := kt_M572) [(0, .ref (w_adr E.2.1 12 0)), (1, .int x1), (2, .int x2), (3, .int x3)] kX13_typeCase_c4.2.2.2.2.2.1 (Nat.le_of_ble_eq_true rfl) ⟨⟨rfl, rfl, .inl rfl⟩, ⟨⟨rfl, rfl, .inl rfl⟩, ⟨⟨rfl, rfl, .inl rfl⟩, ⟨⟨rfl, rfl, .inr rfl⟩, trivial⟩⟩⟩⟩ rfl ?_
    exact kz_weak [(0, .ref (w_adr E.2.1 12 0)), (1, .int x1), (2, .int x2), (3, .int x3), (4, .int (w_a w 12 0 28 (x3).toNatClampNeg))] ⟨rfl, ⟨rfl, ⟨rfl, ⟨rfl, ⟨rfl, trivial⟩⟩⟩⟩⟩ rfl h
def zb_X13_typeCase_p43 (E : zE) (L : Nat) (Q : kx_Rs → wS → Prop) (x1 : Int32) (x2 : Int32) (w : wS) : Prop := (kx_inb x1 (w_n w 12 0 29) = true ∧ zL_X13_typeCase_p50 E L Q x1 x2 (w_a w 12 0 29 (x1).toNatClampNeg) w)
theorem zt_X13_typeCase_p43 {E : zE} {L : Nat} {Q : kx_Rs → wS → Prop} {x1 : Int32} {x2 : Int32} {w : wS} (hL : 25 ≤ L) (h : zb_X13_typeCase_p43 E L Q x1 x2 w) : kzE E L kt_M572 43 [(0, .ref (w_adr E.2.1 12 0)), (1, .int x1), (2, .int x2)] [] w Q := by
  unfold zb_X13_typeCase_p43 at h
  refine kz_aload_n (M := kt_M572) kX13_typeCase_c3.2.2.1 rfl ?_
  refine kz_gfc (M := kt_M572) (x := 4101) (c := 12) (o := 0) kX13_typeCase_c3.2.2.2.1 wf_X13_196 (.inl rfl) ?_
  refine kz_iload_n (M := kt_M572) kX13_typeCase_c3.2.2.2.2.1 rfl ?_
  refine kz_iald (M := kt_M572) (c := 12) (o := 0) (k := 29) (a := (E.2.1 4101)) kX13_typeCase_c3.2.2.2.2.2.1 ow_12_0_29 oa_12_0_29 ot_0 h (fun h => ?_)
  refine kz_sti_n (M := kt_M572) [(0, .ref (w_adr E.2.1 12 0)), (1, .int x1), (2, .int x2)] kX13_typeCase_c3.2.2.2.2.2.2.1 (Nat.le_of_ble_eq_true rfl) ⟨⟨rfl, rfl, .inl rfl⟩, ⟨⟨rfl, rfl, .inl rfl⟩, ⟨⟨rfl, rfl, .inr rfl⟩, trivial⟩⟩⟩ rfl ?_
  exact kz_weak [(0, .ref (w_adr E.2.1 12 0)), (1, .int x1), (2, .int x2), (3, .int (w_a w 12 0 29 (x1).toNatClampNeg))] ⟨rfl, ⟨rfl, ⟨rfl, ⟨rfl, trivial⟩⟩⟩⟩ rfl h
def zb_X13_typeCase_p29 (E : zE) (L : Nat) (Q : kx_Rs → wS → Prop) (x1 : Int32) (w : wS) : Prop := (kx_inb x1 (w_n w 12 0 27) = true ∧ zw E (L - 22) kt_M560 [.ref (w_adr E.2.1 12 0), .int 7, .int (w_a w 12 0 27 (x1).toNatClampNeg)] w (wk0 (fun w1 => wle w w1 → zb_X13_typeCase_p43 E L Q x1 (-1) w1) (fun e w => Q (.inr e) w)))
theorem zt_X13_typeCase_p29 {E : zE} {L : Nat} {Q : kx_Rs → wS → Prop} {x1 : Int32} {w : wS} (hL : 25 ≤ L) (h : zb_X13_typeCase_p29 E L Q x1 w) : kzE E L kt_M572 29 [(0, .ref (w_adr E.2.1 12 0)), (1, .int x1)] [] w Q := by
  unfold zb_X13_typeCase_p29 at h
  refine kz_aload_n (M := kt_M572) kX13_typeCase_c2.2.1 rfl ?_
  refine kz_bi (M := kt_M572) 7 kX13_typeCase_c2.2.2.1 rfl ?_
  refine kz_aload_n (M := kt_M572) kX13_typeCase_c2.2.2.2.1 rfl ?_
  refine kz_gfc (M := kt_M572) (x := 4099) (c := 12) (o := 0) kX13_typeCase_c2.2.2.2.2.1 wf_X13_190 (.inl rfl) ?_
  refine kz_iload_n (M := kt_M572) kX13_typeCase_c2.2.2.2.2.2.1 rfl ?_
  refine kz_iald (M := kt_M572) (c := 12) (o := 0) (k := 27) (a := (E.2.1 4099)) kX13_typeCase_c2.2.2.2.2.2.2.1 ow_12_0_27 oa_12_0_27 ot_0 h (fun h => ?_)
  refine kz_cv0 (M := kt_M572) (c := 12) (o := 0) (As := [.int 7, .int (w_a w 12 0 27 (x1).toNatClampNeg)]) (rest := []) kX13_typeCase_c2.2.2.2.2.2.2.2.1 wl_X13_734 wMv_560 rfl (.inl rfl) rfl (Nat.le_trans (Nat.le_of_ble_eq_true rfl) hL) (Nat.le_of_ble_eq_true rfl) (Nat.le_of_ble_eq_true rfl) h (fun w1 hle h => ?_) (fun _ _ _ h => kzx_no rfl h)
  have h := h hle
  refine kz_ic (M := kt_M572) (-1) kX13_typeCase_c3.1 rfl ?_
  refine kz_sti_n (M := kt_M572) [(0, .ref (w_adr E.2.1 12 0)), (1, .int x1)] kX13_typeCase_c3.2.1 (Nat.le_of_ble_eq_true rfl) ⟨⟨rfl, rfl, .inl rfl⟩, ⟨⟨rfl, rfl, .inr rfl⟩, trivial⟩⟩ rfl ?_
  exact kz_weak [(0, .ref (w_adr E.2.1 12 0)), (1, .int x1), (2, .int (-1))] ⟨rfl, ⟨rfl, ⟨rfl, trivial⟩⟩⟩ rfl (zt_X13_typeCase_p43 hL  h)
def zb_X13_typeCase_p0 (E : zE) (L : Nat) (Q : kx_Rs → wS → Prop) (x1 : Int32) (w : wS) : Prop := (kx_inb x1 (w_n w 12 0 28) = true ∧ zw E (L - 23) kt_M576 [.ref (w_adr E.2.1 12 0), .int (w_a w 12 0 28 (x1).toNatClampNeg)] w (wk1 (fun v2 w1 => wle w w1 → (if v2 = (-1) then zb_X13_typeCase_p43 E L Q x1 v2 w1 else (if ¬ w_i w1 12 0 73 = (-1) then zb_X13_typeCase_p29 E L Q x1 w1 else (if v2 ≤ 1 then zb_X13_typeCase_p43 E L Q x1 v2 w1 else zb_X13_typeCase_p29 E L Q x1 w1)))) (fun e w => Q (.inr e) w)))
theorem zt_X13_typeCase_p0 {E : zE} {L : Nat} {Q : kx_Rs → wS → Prop} {x1 : Int32} {w : wS} (hL : 25 ≤ L) (h : zb_X13_typeCase_p0 E L Q x1 w) : kzE E L kt_M572 0 [(0, .ref (w_adr E.2.1 12 0)), (1, .int x1)] [] w Q := by
  unfold zb_X13_typeCase_p0 at h
  refine kz_aload_n (M := kt_M572) kX13_typeCase_c0.1 rfl ?_
  refine kz_aload_n (M := kt_M572) kX13_typeCase_c0.2.1 rfl ?_
  refine kz_gfc (M := kt_M572) (x := 4100) (c := 12) (o := 0) kX13_typeCase_c0.2.2.1 wf_X13_193 (.inl rfl) ?_
  refine kz_iload_n (M := kt_M572) kX13_typeCase_c0.2.2.2.1 rfl ?_
  refine kz_iald (M := kt_M572) (c := 12) (o := 0) (k := 28) (a := (E.2.1 4100)) kX13_typeCase_c0.2.2.2.2.1 ow_12_0_28 oa_12_0_28 ot_0 h (fun h => ?_)
  refine kz_cv1 (M := kt_M572) (c := 12) (o := 0) (As := [.int (w_a w 12 0 28 (x1).toNatClampNeg)]) (rest := []) kX13_typeCase_c0.2.2.2.2.2.1 wl_X13_853 wMv_576 rfl (.inl rfl) rfl (Nat.le_trans (Nat.le_of_ble_eq_true rfl) hL) (Nat.le_of_ble_eq_true rfl) (Nat.le_of_ble_eq_true rfl) h (fun v2 w1 hle h => ?_) (fun _ _ _ h => kzx_no rfl h)
  have h := h hle
  refine kz_sti_n (M := kt_M572) [(0, .ref (w_adr E.2.1 12 0)), (1, .int x1)] kX13_typeCase_c0.2.2.2.2.2.2.1 (Nat.le_of_ble_eq_true rfl) ⟨⟨rfl, rfl, .inl rfl⟩, ⟨⟨rfl, rfl, .inr rfl⟩, trivial⟩⟩ rfl ?_
  refine kz_iload_n (M := kt_M572) kX13_typeCase_c0.2.2.2.2.2.2.2.1 rfl ?_
  refine kz_ic (M := kt_M572) (-1) kX13_typeCase_c1.1 rfl ?_
  refine kz_icmp_eq (M := kt_M572) kX13_typeCase_c1.2.1 (t := 43) rfl h (fun h => ?_) (fun h => ?_)
  · skip
    exact kz_weak [(0, .ref (w_adr E.2.1 12 0)), (1, .int x1), (2, .int v2)] ⟨rfl, ⟨rfl, ⟨rfl, trivial⟩⟩⟩ rfl (zt_X13_typeCase_p43 hL  h)
  · skip
    refine kz_aload_n (M := kt_M572) kX13_typeCase_c1.2.2.1 rfl ?_
    refine kz_gfi (M := kt_M572) (c := 12) (o := 0) kX13_typeCase_c1.2.2.2.1 wf_X13_859 (.inl rfl) ?_
    refine kz_ic (M := kt_M572) (-1) kX13_typeCase_c1.2.2.2.2.1 rfl ?_
    refine kz_icmp_ne (M := kt_M572) kX13_typeCase_c1.2.2.2.2.2.1 (t := 29) rfl h (fun h => ?_) (fun h => ?_)
    · skip
      exact kz_weak [(0, .ref (w_adr E.2.1 12 0)), (1, .int x1)] ⟨rfl, ⟨rfl, trivial⟩⟩ rfl (zt_X13_typeCase_p29 hL  h)
    · skip
      refine kz_iload_n (M := kt_M572) kX13_typeCase_c1.2.2.2.2.2.2.1 rfl ?_
      refine kz_ic (M := kt_M572) 1 kX13_typeCase_c1.2.2.2.2.2.2.2.1 rfl ?_
      refine kz_icmp_le (M := kt_M572) kX13_typeCase_c2.1 (t := 43) rfl h (fun h => ?_) (fun h => ?_)
      · skip
        exact kz_weak [(0, .ref (w_adr E.2.1 12 0)), (1, .int x1), (2, .int v2)] ⟨rfl, ⟨rfl, ⟨rfl, trivial⟩⟩⟩ rfl (zt_X13_typeCase_p43 hL  h)
      · skip
        exact kz_weak [(0, .ref (w_adr E.2.1 12 0)), (1, .int x1)] ⟨rfl, ⟨rfl, trivial⟩⟩ rfl (zt_X13_typeCase_p29 hL  h)
def zL_X13_isTwice_p22 (E : zE) (L : Nat) (Q : kx_Rs → wS → Prop) (x2 : Int32) (x3 : Int32) (x4 : Int32) (x5 : Int32) (w : wS) : Prop := kzE E L kt_M447 22 [(0, .ref (w_adr E.2.1 12 0)), (2, .int x2), (3, .int x3), (4, .int x4), (5, .int x5)] [] w Q
def zL_X13_isTwice_p8 (E : zE) (L : Nat) (Q : kx_Rs → wS → Prop) (x2 : Int32) (x3 : Int32) (x4 : Int32) (w : wS) : Prop := kzE E L kt_M447 8 [(0, .ref (w_adr E.2.1 12 0)), (2, .int x2), (3, .int x3), (4, .int x4)] [] w Q
def zb_X13_isTwice_p63 (E : zE) (L : Nat) (Q : kx_Rs → wS → Prop) (x2 : Int32) (x3 : Int32) (x4 : Int32) (x5 : Int32) (w : wS) : Prop := (kx_inb x5 (w_n w 12 0 32) = true ∧ zL_X13_isTwice_p22 E L Q x2 x3 x4 (w_a w 12 0 32 (x5).toNatClampNeg) w)
theorem zt_X13_isTwice_p63 {E : zE} {L : Nat} {Q : kx_Rs → wS → Prop} {x2 : Int32} {x3 : Int32} {x4 : Int32} {x5 : Int32} {w : wS} (hL : 23 ≤ L) (h : zb_X13_isTwice_p63 E L Q x2 x3 x4 x5 w) : kzE E L kt_M447 63 [(0, .ref (w_adr E.2.1 12 0)), (2, .int x2), (3, .int x3), (4, .int x4), (5, .int x5)] [] w Q := by
  unfold zb_X13_isTwice_p63 at h
  refine kz_aload_n (M := kt_M447) kX13_isTwice_c4.2.1 rfl ?_
  refine kz_gfc (M := kt_M447) (x := 4104) (c := 12) (o := 0) kX13_isTwice_c4.2.2.1 wf_X13_205 (.inl rfl) ?_
  refine kz_iload (M := kt_M447) kX13_isTwice_c4.2.2.2.1 rfl ?_
  refine kz_iald (M := kt_M447) (c := 12) (o := 0) (k := 32) (a := (E.2.1 4104)) kX13_isTwice_c4.2.2.2.2.1 ow_12_0_32 oa_12_0_32 ot_0 h (fun h => ?_)
  refine kz_sti (M := kt_M447) [(0, .ref (w_adr E.2.1 12 0)), (2, .int x2), (3, .int x3), (4, .int x4)] kX13_isTwice_c4.2.2.2.2.2.1 (Nat.le_of_ble_eq_true rfl) ⟨⟨rfl, rfl, .inl rfl⟩, ⟨⟨rfl, rfl, .inl rfl⟩, ⟨⟨rfl, rfl, .inl rfl⟩, ⟨⟨rfl, rfl, .inr rfl⟩, trivial⟩⟩⟩⟩ rfl ?_
  refine kz_goto (M := kt_M447) kX13_isTwice_c4.2.2.2.2.2.2.1 (t := 22) rfl ?_
  exact kz_weak [(0, .ref (w_adr E.2.1 12 0)), (2, .int x2), (3, .int x3), (4, .int x4), (5, .int (w_a w 12 0 32 (x5).toNatClampNeg))] ⟨rfl, ⟨rfl, ⟨rfl, ⟨rfl, ⟨rfl, trivial⟩⟩⟩⟩⟩ rfl h
def zb_X13_isTwice_p22 (E : zE) (L : Nat) (Q : kx_Rs → wS → Prop) (x2 : Int32) (x3 : Int32) (x4 : Int32) (x5 : Int32) (w : wS) : Prop := (if x5 < 0 then (kx_inb x4 (w_n w 12 0 32) = true ∧ zL_X13_isTwice_p8 E L Q x2 x3 (w_a w 12 0 32 (x4).toNatClampNeg) w) else (if ¬ x5 = x2 then zw E (L - 23) kt_M440 [.ref (w_adr E.2.1 12 0), .int x5] w (wk1 (fun v2 w1 => wle w w1 → (if v2 = 0 then zb_X13_isTwice_p63 E L Q x2 x3 x4 x5 w1 else zw E (L - 23) kt_M428 [.ref (w_adr E.2.1 12 0), .int x5] w1 (wk1 (fun v4 w3 => wle w1 w3 → (if v4 = 0 then zb_X13_isTwice_p63 E L Q x2 x3 x4 x5 w3 else (if ¬ w_i w3 12 0 24 = x3 then zb_X13_isTwice_p63 E L Q x2 x3 x4 x5 w3 else Q (.inl (some (.int 1))) w3))) (fun e w => Q (.inr e) w)))) (fun e w => Q (.inr e) w)) else Q (.inl (some (.int 0))) w))
theorem zt_X13_isTwice_p22 {E : zE} {L : Nat} {Q : kx_Rs → wS → Prop} {x2 : Int32} {x3 : Int32} {x4 : Int32} {x5 : Int32} {w : wS} (hL : 23 ≤ L) (h : zb_X13_isTwice_p22 E L Q x2 x3 x4 x5 w) : kzE E L kt_M447 22 [(0, .ref (w_adr E.2.1 12 0)), (2, .int x2), (3, .int x3), (4, .int x4), (5, .int x5)] [] w Q := by
  unfold zb_X13_isTwice_p22 at h
  refine kz_iload (M := kt_M447) kX13_isTwice_c1.2.2.2.2.1 rfl ?_
  refine kz_if_lt (M := kt_M447) kX13_isTwice_c1.2.2.2.2.2.1 (t := 75) rfl h (fun h => ?_) (fun h => ?_)
  · skip
    refine kz_aload_n (M := kt_M447) kX13_isTwice_c4.2.2.2.2.2.2.2.1 rfl ?_
    refine kz_gfc (M := kt_M447) (x := 4104) (c := 12) (o := 0) kX13_isTwice_c5.1 wf_X13_205 (.inl rfl) ?_
    refine kz_iload (M := kt_M447) kX13_isTwice_c5.2.1 rfl ?_
    refine kz_iald (M := kt_M447) (c := 12) (o := 0) (k := 32) (a := (E.2.1 4104)) kX13_isTwice_c5.2.2.1 ow_12_0_32 oa_12_0_32 ot_0 h (fun h => ?_)
    refine kz_sti (M := kt_M447) [(0, .ref (w_adr E.2.1 12 0)), (2, .int x2), (3, .int x3)] kX13_isTwice_c5.2.2.2.1 (Nat.le_of_ble_eq_true rfl) ⟨⟨rfl, rfl, .inl rfl⟩, ⟨⟨rfl, rfl, .inl rfl⟩, ⟨⟨rfl, rfl, .inr rfl⟩, trivial⟩⟩⟩ rfl ?_
    refine kz_goto (M := kt_M447) kX13_isTwice_c5.2.2.2.2.1 (t := 8) rfl ?_
    exact kz_weak [(0, .ref (w_adr E.2.1 12 0)), (2, .int x2), (3, .int x3), (4, .int (w_a w 12 0 32 (x4).toNatClampNeg))] ⟨rfl, ⟨rfl, ⟨rfl, ⟨rfl, trivial⟩⟩⟩⟩ rfl h
  · skip
    refine kz_iload (M := kt_M447) kX13_isTwice_c1.2.2.2.2.2.2.1 rfl ?_
    refine kz_iload_n (M := kt_M447) kX13_isTwice_c1.2.2.2.2.2.2.2.1 rfl ?_
    refine kz_icmp_ne (M := kt_M447) kX13_isTwice_c2.1 (t := 35) rfl h (fun h => ?_) (fun h => ?_)
    · skip
      refine kz_aload_n (M := kt_M447) kX13_isTwice_c2.2.2.2.1 rfl ?_
      refine kz_iload (M := kt_M447) kX13_isTwice_c2.2.2.2.2.1 rfl ?_
      refine kz_cv1 (M := kt_M447) (c := 12) (o := 0) (As := [.int x5]) (rest := []) kX13_isTwice_c2.2.2.2.2.2.1 wl_X13_816 wMv_440 rfl (.inl rfl) rfl (Nat.le_trans (Nat.le_of_ble_eq_true rfl) hL) (Nat.le_of_ble_eq_true rfl) (Nat.le_of_ble_eq_true rfl) h (fun v2 w1 hle h => ?_) (fun _ _ _ h => kzx_no rfl h)
      have h := h hle
      refine kz_if_eq (M := kt_M447) kX13_isTwice_c2.2.2.2.2.2.2.1 (t := 63) rfl h (fun h => ?_) (fun h => ?_)
      · skip
        exact kz_weak [(0, .ref (w_adr E.2.1 12 0)), (2, .int x2), (3, .int x3), (4, .int x4), (5, .int x5)] ⟨rfl, ⟨rfl, ⟨rfl, ⟨rfl, ⟨rfl, trivial⟩⟩⟩⟩⟩ rfl (zt_X13_isTwice_p63 hL  h)
      · skip
        refine kz_aload_n (M := kt_M447) kX13_isTwice_c2.2.2.2.2.2.2.2.1 rfl ?_
        refine kz_iload (M := kt_M447) kX13_isTwice_c3.1 rfl ?_
        refine kz_cv1 (M := kt_M447) (c := 12) (o := 0) (As := [.int x5]) (rest := []) kX13_isTwice_c3.2.1 wl_X13_846 wMv_428 rfl (.inl rfl) rfl (Nat.le_trans (Nat.le_of_ble_eq_true rfl) hL) (Nat.le_of_ble_eq_true rfl) (Nat.le_of_ble_eq_true rfl) h (fun v4 w3 hle h => ?_) (fun _ _ _ h => kzx_no rfl h)
        have h := h hle
        refine kz_if_eq (M := kt_M447) kX13_isTwice_c3.2.2.1 (t := 63) rfl h (fun h => ?_) (fun h => ?_)
        · skip
          exact kz_weak [(0, .ref (w_adr E.2.1 12 0)), (2, .int x2), (3, .int x3), (4, .int x4), (5, .int x5)] ⟨rfl, ⟨rfl, ⟨rfl, ⟨rfl, ⟨rfl, trivial⟩⟩⟩⟩⟩ rfl (zt_X13_isTwice_p63 hL  h)
        · skip
          refine kz_aload_n (M := kt_M447) kX13_isTwice_c3.2.2.2.1 rfl ?_
          refine kz_gfi (M := kt_M447) (c := 12) (o := 0) kX13_isTwice_c3.2.2.2.2.1 wf_X13_493 (.inl rfl) ?_
          refine kz_iload_n (M := kt_M447) kX13_isTwice_c3.2.2.2.2.2.1 rfl ?_
          refine kz_icmp_ne (M := kt_M447) kX13_isTwice_c3.2.2.2.2.2.2.1 (t := 63) rfl h (fun h => ?_) (fun h => ?_)
          · skip
            exact kz_weak [(0, .ref (w_adr E.2.1 12 0)), (2, .int x2), (3, .int x3), (4, .int x4), (5, .int x5)] ⟨rfl, ⟨rfl, ⟨rfl, ⟨rfl, ⟨rfl, trivial⟩⟩⟩⟩⟩ rfl (zt_X13_isTwice_p63 hL  h)
          · skip
            refine kz_ic (M := kt_M447) 1 kX13_isTwice_c3.2.2.2.2.2.2.2.1 rfl ?_
            exact kz_iretz (M := kt_M447) kX13_isTwice_c4.1 rfl (by decide) h
    · skip
      refine kz_ic (M := kt_M447) 0 kX13_isTwice_c2.2.1 rfl ?_
      exact kz_iretz (M := kt_M447) kX13_isTwice_c2.2.2.1 rfl (by decide) h
def zb_X13_isTwice_p8 (E : zE) (L : Nat) (Q : kx_Rs → wS → Prop) (x2 : Int32) (x3 : Int32) (x4 : Int32) (w : wS) : Prop := (if x4 < 0 then Q (.inl (some (.int 0))) w else (kx_inb x4 (w_n w 12 0 28) = true ∧ zL_X13_isTwice_p22 E L Q x2 x3 x4 (w_a w 12 0 28 (x4).toNatClampNeg) w))
theorem zt_X13_isTwice_p8 {E : zE} {L : Nat} {Q : kx_Rs → wS → Prop} {x2 : Int32} {x3 : Int32} {x4 : Int32} {w : wS} (hL : 23 ≤ L) (h : zb_X13_isTwice_p8 E L Q x2 x3 x4 w) : kzE E L kt_M447 8 [(0, .ref (w_adr E.2.1 12 0)), (2, .int x2), (3, .int x3), (4, .int x4)] [] w Q := by
  unfold zb_X13_isTwice_p8 at h
  refine kz_iload (M := kt_M447) kX13_isTwice_c0.2.2.2.2.2.1 rfl ?_
  refine kz_if_lt (M := kt_M447) kX13_isTwice_c0.2.2.2.2.2.2.1 (t := 87) rfl h (fun h => ?_) (fun h => ?_)
  · skip
    refine kz_ic (M := kt_M447) 0 kX13_isTwice_c5.2.2.2.2.2.1 rfl ?_
    exact kz_iretz (M := kt_M447) kX13_isTwice_c5.2.2.2.2.2.2.1 rfl (by decide) h
  · skip
    refine kz_aload_n (M := kt_M447) kX13_isTwice_c0.2.2.2.2.2.2.2.1 rfl ?_
    refine kz_gfc (M := kt_M447) (x := 4100) (c := 12) (o := 0) kX13_isTwice_c1.1 wf_X13_193 (.inl rfl) ?_
    refine kz_iload (M := kt_M447) kX13_isTwice_c1.2.1 rfl ?_
    refine kz_iald (M := kt_M447) (c := 12) (o := 0) (k := 28) (a := (E.2.1 4100)) kX13_isTwice_c1.2.2.1 ow_12_0_28 oa_12_0_28 ot_0 h (fun h => ?_)
    refine kz_sti (M := kt_M447) [(0, .ref (w_adr E.2.1 12 0)), (2, .int x2), (3, .int x3), (4, .int x4)] kX13_isTwice_c1.2.2.2.1 (Nat.le_of_ble_eq_true rfl) ⟨⟨rfl, rfl, .inl rfl⟩, ⟨⟨rfl, rfl, .inl rfl⟩, ⟨⟨rfl, rfl, .inl rfl⟩, ⟨⟨rfl, rfl, .inr rfl⟩, trivial⟩⟩⟩⟩ rfl ?_
    exact kz_weak [(0, .ref (w_adr E.2.1 12 0)), (2, .int x2), (3, .int x3), (4, .int x4), (5, .int (w_a w 12 0 28 (x4).toNatClampNeg))] ⟨rfl, ⟨rfl, ⟨rfl, ⟨rfl, ⟨rfl, trivial⟩⟩⟩⟩⟩ rfl h
def zb_X13_isTwice_p0 (E : zE) (L : Nat) (Q : kx_Rs → wS → Prop) (x1 : Int32) (x2 : Int32) (x3 : Int32) (w : wS) : Prop := (kx_inb x1 (w_n w 12 0 29) = true ∧ zL_X13_isTwice_p8 E L Q x2 x3 (w_a w 12 0 29 (x1).toNatClampNeg) w)
theorem zt_X13_isTwice_p0 {E : zE} {L : Nat} {Q : kx_Rs → wS → Prop} {x1 : Int32} {x2 : Int32} {x3 : Int32} {w : wS} (hL : 23 ≤ L) (h : zb_X13_isTwice_p0 E L Q x1 x2 x3 w) : kzE E L kt_M447 0 [(0, .ref (w_adr E.2.1 12 0)), (1, .int x1), (2, .int x2), (3, .int x3)] [] w Q := by
  unfold zb_X13_isTwice_p0 at h
  refine kz_aload_n (M := kt_M447) kX13_isTwice_c0.1 rfl ?_
  refine kz_gfc (M := kt_M447) (x := 4101) (c := 12) (o := 0) kX13_isTwice_c0.2.1 wf_X13_196 (.inl rfl) ?_
  refine kz_iload_n (M := kt_M447) kX13_isTwice_c0.2.2.1 rfl ?_
  refine kz_iald (M := kt_M447) (c := 12) (o := 0) (k := 29) (a := (E.2.1 4101)) kX13_isTwice_c0.2.2.2.1 ow_12_0_29 oa_12_0_29 ot_0 h (fun h => ?_)
  refine kz_sti (M := kt_M447) [(0, .ref (w_adr E.2.1 12 0)), (2, .int x2), (3, .int x3)] kX13_isTwice_c0.2.2.2.2.1 (Nat.le_of_ble_eq_true rfl) ⟨⟨rfl, rfl, .inl rfl⟩, ⟨⟨rfl, rfl, .inl rfl⟩, ⟨⟨rfl, rfl, .inr rfl⟩, trivial⟩⟩⟩ rfl ?_
  exact kz_weak [(0, .ref (w_adr E.2.1 12 0)), (2, .int x2), (3, .int x3), (4, .int (w_a w 12 0 29 (x1).toNatClampNeg))] ⟨rfl, ⟨rfl, ⟨rfl, ⟨rfl, trivial⟩⟩⟩⟩ rfl h
def zb_X13_actBlock_p0 (E : zE) (L : Nat) (Q : kx_Rs → wS → Prop) (x1 : Int32) (w : wS) : Prop := (kx_inb x1 (w_n w 12 0 28) = true ∧ zw E (L - 23) kt_M345 [.ref (w_adr E.2.1 12 0), .int (w_a w 12 0 28 (x1).toNatClampNeg)] w (wk0 (fun w1 => wle w w1 → (kx_inb x1 (w_n w1 12 0 29) = true ∧ zw E (L - 23) kt_M341 [.ref (w_adr E.2.1 12 0), .int (w_a w1 12 0 29 (x1).toNatClampNeg)] w1 (wk0 (fun w3 => wle w1 w3 → Q (.inl none) w3) (fun e w => Q (.inr e) w)))) (fun e w => Q (.inr e) w)))
theorem zt_X13_actBlock_p0 {E : zE} {L : Nat} {Q : kx_Rs → wS → Prop} {x1 : Int32} {w : wS} (hL : 23 ≤ L) (h : zb_X13_actBlock_p0 E L Q x1 w) : kzE E L kt_M342 0 [(0, .ref (w_adr E.2.1 12 0)), (1, .int x1)] [] w Q := by
  unfold zb_X13_actBlock_p0 at h
  refine kz_aload_n (M := kt_M342) kX13_actBlock_c0.1 rfl ?_
  refine kz_aload_n (M := kt_M342) kX13_actBlock_c0.2.1 rfl ?_
  refine kz_gfc (M := kt_M342) (x := 4100) (c := 12) (o := 0) kX13_actBlock_c0.2.2.1 wf_X13_193 (.inl rfl) ?_
  refine kz_iload_n (M := kt_M342) kX13_actBlock_c0.2.2.2.1 rfl ?_
  refine kz_iald (M := kt_M342) (c := 12) (o := 0) (k := 28) (a := (E.2.1 4100)) kX13_actBlock_c0.2.2.2.2.1 ow_12_0_28 oa_12_0_28 ot_0 h (fun h => ?_)
  refine kz_cv0 (M := kt_M342) (c := 12) (o := 0) (As := [.int (w_a w 12 0 28 (x1).toNatClampNeg)]) (rest := []) kX13_actBlock_c0.2.2.2.2.2.1 wl_X13_1061 wMv_345 rfl (.inl rfl) rfl (Nat.le_trans (Nat.le_of_ble_eq_true rfl) hL) (Nat.le_of_ble_eq_true rfl) (Nat.le_of_ble_eq_true rfl) h (fun w1 hle h => ?_) (fun _ _ _ h => kzx_no rfl h)
  have h := h hle
  refine kz_aload_n (M := kt_M342) kX13_actBlock_c0.2.2.2.2.2.2.1 rfl ?_
  refine kz_aload_n (M := kt_M342) kX13_actBlock_c0.2.2.2.2.2.2.2.1 rfl ?_
  refine kz_gfc (M := kt_M342) (x := 4101) (c := 12) (o := 0) kX13_actBlock_c1.1 wf_X13_196 (.inl rfl) ?_
  refine kz_iload_n (M := kt_M342) kX13_actBlock_c1.2.1 rfl ?_
  refine kz_iald (M := kt_M342) (c := 12) (o := 0) (k := 29) (a := (E.2.1 4101)) kX13_actBlock_c1.2.2.1 ow_12_0_29 oa_12_0_29 ot_0 h (fun h => ?_)
  refine kz_cv0 (M := kt_M342) (c := 12) (o := 0) (As := [.int (w_a w1 12 0 29 (x1).toNatClampNeg)]) (rest := []) kX13_actBlock_c1.2.2.2.1 wl_X13_1064 wMv_341 rfl (.inl rfl) rfl (Nat.le_trans (Nat.le_of_ble_eq_true rfl) hL) (Nat.le_of_ble_eq_true rfl) (Nat.le_of_ble_eq_true rfl) h (fun w3 hle h => ?_) (fun _ _ _ h => kzx_no rfl h)
  have h := h hle
  exact kz_ret (M := kt_M342) kX13_actBlock_c1.2.2.2.2.1 rfl h
def zL_X13_actDeclarations_p2 (E : zE) (L : Nat) (Q : kx_Rs → wS → Prop) (x2 : Int32) (w : wS) : Prop := kzE E L kt_M345 2 [(0, .ref (w_adr E.2.1 12 0)), (2, .int x2)] [] w Q
def zb_X13_actDeclarations_p109 (E : zE) (L : Nat) (Q : kx_Rs → wS → Prop) (x2 : Int32) (w : wS) : Prop := (kx_inb x2 (w_n w 12 0 32) = true ∧ zL_X13_actDeclarations_p2 E L Q (w_a w 12 0 32 (x2).toNatClampNeg) w)
theorem zt_X13_actDeclarations_p109 {E : zE} {L : Nat} {Q : kx_Rs → wS → Prop} {x2 : Int32} {w : wS} (hL : 26 ≤ L) (h : zb_X13_actDeclarations_p109 E L Q x2 w) : kzE E L kt_M345 109 [(0, .ref (w_adr E.2.1 12 0)), (2, .int x2)] [] w Q := by
  unfold zb_X13_actDeclarations_p109 at h
  refine kz_aload_n (M := kt_M345) kX13_actDeclarations_c7.2.2.2.2.2.1 rfl ?_
  refine kz_gfc (M := kt_M345) (x := 4104) (c := 12) (o := 0) kX13_actDeclarations_c7.2.2.2.2.2.2.1 wf_X13_205 (.inl rfl) ?_
  refine kz_iload_n (M := kt_M345) kX13_actDeclarations_c7.2.2.2.2.2.2.2.1 rfl ?_
  refine kz_iald (M := kt_M345) (c := 12) (o := 0) (k := 32) (a := (E.2.1 4104)) kX13_actDeclarations_c8.1 ow_12_0_32 oa_12_0_32 ot_0 h (fun h => ?_)
  refine kz_sti_n (M := kt_M345) [(0, .ref (w_adr E.2.1 12 0))] kX13_actDeclarations_c8.2.1 (Nat.le_of_ble_eq_true rfl) ⟨⟨rfl, rfl, .inl rfl⟩, trivial⟩ rfl ?_
  refine kz_goto (M := kt_M345) kX13_actDeclarations_c8.2.2.1 (t := 2) rfl ?_
  exact kz_weak [(0, .ref (w_adr E.2.1 12 0)), (2, .int (w_a w 12 0 32 (x2).toNatClampNeg))] ⟨rfl, ⟨rfl, trivial⟩⟩ rfl h
def zb_X13_actDeclarations_p99 (E : zE) (L : Nat) (Q : kx_Rs → wS → Prop) (x2 : Int32) (x3 : Int32) (w : wS) : Prop := zw E (L - 26) kt_M549 [.ref (w_adr E.2.1 12 0), .int x2] (ws_i w 12 0 100 x3) (wk0 (fun w1 => wle (ws_i w 12 0 100 x3) w1 → zb_X13_actDeclarations_p109 E L Q x2 w1) (fun e w => Q (.inr e) w))
theorem zt_X13_actDeclarations_p99 {E : zE} {L : Nat} {Q : kx_Rs → wS → Prop} {x2 : Int32} {x3 : Int32} {w : wS} (hL : 26 ≤ L) (h : zb_X13_actDeclarations_p99 E L Q x2 x3 w) : kzE E L kt_M345 99 [(0, .ref (w_adr E.2.1 12 0)), (2, .int x2), (3, .int x3)] [] w Q := by
  unfold zb_X13_actDeclarations_p99 at h
  refine kz_aload_n (M := kt_M345) kX13_actDeclarations_c6.2.2.2.2.2.2.2.1 rfl ?_
  refine kz_iload_n (M := kt_M345) kX13_actDeclarations_c7.1 rfl ?_
  refine kz_pfi (M := kt_M345) (c := 12) (o := 0) kX13_actDeclarations_c7.2.1 wq_X13_1067 (.inl rfl) ?_
  refine kz_aload_n (M := kt_M345) kX13_actDeclarations_c7.2.2.1 rfl ?_
  refine kz_iload_n (M := kt_M345) kX13_actDeclarations_c7.2.2.2.1 rfl ?_
  refine kz_cv0 (M := kt_M345) (c := 12) (o := 0) (As := [.int x2]) (rest := []) kX13_actDeclarations_c7.2.2.2.2.1 wl_X13_1073 wMv_549 rfl (.inl rfl) rfl (Nat.le_trans (Nat.le_of_ble_eq_true rfl) hL) (Nat.le_of_ble_eq_true rfl) (Nat.le_of_ble_eq_true rfl) h (fun w1 hle h => ?_) (fun _ _ _ h => kzx_no rfl h)
  have h := h hle
  exact kz_weak [(0, .ref (w_adr E.2.1 12 0)), (2, .int x2)] ⟨rfl, ⟨rfl, trivial⟩⟩ rfl (zt_X13_actDeclarations_p109 hL  h)
def zb_X13_actDeclarations_p80 (E : zE) (L : Nat) (Q : kx_Rs → wS → Prop) (x2 : Int32) (x3 : Int32) (w : wS) : Prop := (kx_inb x2 (w_n w 12 0 29) = true ∧ (if w_a w 12 0 29 (x2).toNatClampNeg < 0 then zb_X13_actDeclarations_p99 E L Q x2 x3 w else (kx_inb x2 (w_n w 12 0 29) = true ∧ zw E (L - 21) kt_M342 [.ref (w_adr E.2.1 12 0), .int (w_a w 12 0 29 (x2).toNatClampNeg)] w (wk0 (fun w1 => wle w w1 → zb_X13_actDeclarations_p99 E L Q x2 x3 w1) (fun e w => Q (.inr e) w)))))
theorem zt_X13_actDeclarations_p80 {E : zE} {L : Nat} {Q : kx_Rs → wS → Prop} {x2 : Int32} {x3 : Int32} {w : wS} (hL : 26 ≤ L) (h : zb_X13_actDeclarations_p80 E L Q x2 x3 w) : kzE E L kt_M345 80 [(0, .ref (w_adr E.2.1 12 0)), (2, .int x2), (3, .int x3)] [] w Q := by
  unfold zb_X13_actDeclarations_p80 at h
  refine kz_aload_n (M := kt_M345) kX13_actDeclarations_c5.2.2.2.2.1 rfl ?_
  refine kz_gfc (M := kt_M345) (x := 4101) (c := 12) (o := 0) kX13_actDeclarations_c5.2.2.2.2.2.1 wf_X13_196 (.inl rfl) ?_
  refine kz_iload_n (M := kt_M345) kX13_actDeclarations_c5.2.2.2.2.2.2.1 rfl ?_
  refine kz_iald (M := kt_M345) (c := 12) (o := 0) (k := 29) (a := (E.2.1 4101)) kX13_actDeclarations_c5.2.2.2.2.2.2.2.1 ow_12_0_29 oa_12_0_29 ot_0 h (fun h => ?_)
  refine kz_if_lt (M := kt_M345) kX13_actDeclarations_c6.1 (t := 99) rfl h (fun h => ?_) (fun h => ?_)
  · skip
    exact kz_weak [(0, .ref (w_adr E.2.1 12 0)), (2, .int x2), (3, .int x3)] ⟨rfl, ⟨rfl, ⟨rfl, trivial⟩⟩⟩ rfl (zt_X13_actDeclarations_p99 hL  h)
  · skip
    refine kz_aload_n (M := kt_M345) kX13_actDeclarations_c6.2.1 rfl ?_
    refine kz_aload_n (M := kt_M345) kX13_actDeclarations_c6.2.2.1 rfl ?_
    refine kz_gfc (M := kt_M345) (x := 4101) (c := 12) (o := 0) kX13_actDeclarations_c6.2.2.2.1 wf_X13_196 (.inl rfl) ?_
    refine kz_iload_n (M := kt_M345) kX13_actDeclarations_c6.2.2.2.2.1 rfl ?_
    refine kz_iald (M := kt_M345) (c := 12) (o := 0) (k := 29) (a := (E.2.1 4101)) kX13_actDeclarations_c6.2.2.2.2.2.1 ow_12_0_29 oa_12_0_29 ot_0 h (fun h => ?_)
    refine kz_cv0 (M := kt_M345) (c := 12) (o := 0) (As := [.int (w_a w 12 0 29 (x2).toNatClampNeg)]) (rest := []) kX13_actDeclarations_c6.2.2.2.2.2.2.1 wl_X13_1070 wMv_342 rfl (.inl rfl) rfl (Nat.le_trans (Nat.le_of_ble_eq_true rfl) hL) (Nat.le_of_ble_eq_true rfl) (Nat.le_of_ble_eq_true rfl) h (fun w1 hle h => ?_) (fun _ _ _ h => kzx_no rfl h)
    have h := h hle
    exact kz_weak [(0, .ref (w_adr E.2.1 12 0)), (2, .int x2), (3, .int x3)] ⟨rfl, ⟨rfl, ⟨rfl, trivial⟩⟩⟩ rfl (zt_X13_actDeclarations_p99 hL  h)
def zb_X13_actDeclarations_p56 (E : zE) (L : Nat) (Q : kx_Rs → wS → Prop) (x2 : Int32) (x3 : Int32) (y0 : Int32) (w : wS) : Prop := (kx_inb x2 (w_n w 12 0 26) = true ∧ (if ¬ w_a w 12 0 26 (x2).toNatClampNeg = 38 then zb_X13_actDeclarations_p80 E L Q x2 x3 (ws_i w 12 0 100 y0) else (kx_inb x2 (w_n w 12 0 42) = true ∧ zw E (L - 23) kt_M345 [.ref (w_adr E.2.1 12 0), .int (w_a w 12 0 42 (x2).toNatClampNeg)] (ws_i w 12 0 100 y0) (wk0 (fun w1 => wle (ws_i w 12 0 100 y0) w1 → zb_X13_actDeclarations_p80 E L Q x2 x3 w1) (fun e w => Q (.inr e) w)))))
theorem zt_X13_actDeclarations_p56 {E : zE} {L : Nat} {Q : kx_Rs → wS → Prop} {x2 : Int32} {x3 : Int32} {y0 : Int32} {w : wS} (hL : 26 ≤ L) (h : zb_X13_actDeclarations_p56 E L Q x2 x3 y0 w) : kzE E L kt_M345 56 [(0, .ref (w_adr E.2.1 12 0)), (2, .int x2), (3, .int x3)] [.int y0, .ref (w_adr E.2.1 12 0)] w Q := by
  unfold zb_X13_actDeclarations_p56 at h
  refine kz_pfi (M := kt_M345) (c := 12) (o := 0) kX13_actDeclarations_c3.2.2.2.2.2.2.2.1 wq_X13_1067 (.inl rfl) ?_
  refine kz_aload_n (M := kt_M345) kX13_actDeclarations_c4.1 rfl ?_
  refine kz_gfc (M := kt_M345) (x := 4098) (c := 12) (o := 0) kX13_actDeclarations_c4.2.1 wf_X13_187 (.inl rfl) ?_
  refine kz_iload_n (M := kt_M345) kX13_actDeclarations_c4.2.2.1 rfl ?_
  refine kz_ialdR (M := kt_M345) (n := w_n w 12 0 26) (c := 12) (o := 0) (k := 26) (a := (E.2.1 4098)) (w_a w 12 0 26 (x2).toNatClampNeg) kX13_actDeclarations_c4.2.2.2.1 ow_12_0_26 oa_12_0_26 ot_0 rd_n_i rd_a_i h (fun h => ?_)
  refine kz_bi (M := kt_M345) 38 kX13_actDeclarations_c4.2.2.2.2.1 rfl ?_
  refine kz_icmp_ne (M := kt_M345) kX13_actDeclarations_c4.2.2.2.2.2.1 (t := 80) rfl h (fun h => ?_) (fun h => ?_)
  · skip
    exact kz_weak [(0, .ref (w_adr E.2.1 12 0)), (2, .int x2), (3, .int x3)] ⟨rfl, ⟨rfl, ⟨rfl, trivial⟩⟩⟩ rfl (zt_X13_actDeclarations_p80 hL  h)
  · skip
    refine kz_aload_n (M := kt_M345) kX13_actDeclarations_c4.2.2.2.2.2.2.1 rfl ?_
    refine kz_aload_n (M := kt_M345) kX13_actDeclarations_c4.2.2.2.2.2.2.2.1 rfl ?_
    refine kz_gfc (M := kt_M345) (x := 4114) (c := 12) (o := 0) kX13_actDeclarations_c5.1 wf_X13_217 (.inl rfl) ?_
    refine kz_iload_n (M := kt_M345) kX13_actDeclarations_c5.2.1 rfl ?_
    refine kz_ialdR (M := kt_M345) (n := w_n w 12 0 42) (c := 12) (o := 0) (k := 42) (a := (E.2.1 4114)) (w_a w 12 0 42 (x2).toNatClampNeg) kX13_actDeclarations_c5.2.2.1 ow_12_0_42 oa_12_0_42 ot_0 rd_n_i rd_a_i h (fun h => ?_)
    refine kz_cv0 (M := kt_M345) (c := 12) (o := 0) (As := [.int (w_a w 12 0 42 (x2).toNatClampNeg)]) (rest := []) kX13_actDeclarations_c5.2.2.2.1 wl_X13_1061 wMv_345 rfl (.inl rfl) rfl (Nat.le_trans (Nat.le_of_ble_eq_true rfl) hL) (Nat.le_of_ble_eq_true rfl) (Nat.le_of_ble_eq_true rfl) h (fun w1 hle h => ?_) (fun _ _ _ h => kzx_no rfl h)
    have h := h hle
    exact kz_weak [(0, .ref (w_adr E.2.1 12 0)), (2, .int x2), (3, .int x3)] ⟨rfl, ⟨rfl, ⟨rfl, trivial⟩⟩⟩ rfl (zt_X13_actDeclarations_p80 hL  h)
def zb_X13_actDeclarations_p31 (E : zE) (L : Nat) (Q : kx_Rs → wS → Prop) (x2 : Int32) (w : wS) : Prop := (kx_inb x2 (w_n w 12 0 26) = true ∧ (if ¬ w_a w 12 0 26 (x2).toNatClampNeg = 38 then zb_X13_actDeclarations_p56 E L Q x2 (w_i w 12 0 100) (w_i w 12 0 100) w else zb_X13_actDeclarations_p56 E L Q x2 (w_i w 12 0 100) x2 w))
theorem zt_X13_actDeclarations_p31 {E : zE} {L : Nat} {Q : kx_Rs → wS → Prop} {x2 : Int32} {w : wS} (hL : 26 ≤ L) (h : zb_X13_actDeclarations_p31 E L Q x2 w) : kzE E L kt_M345 31 [(0, .ref (w_adr E.2.1 12 0)), (2, .int x2)] [] w Q := by
  unfold zb_X13_actDeclarations_p31 at h
  refine kz_aload_n (M := kt_M345) kX13_actDeclarations_c2.2.1 rfl ?_
  refine kz_gfi (M := kt_M345) (c := 12) (o := 0) kX13_actDeclarations_c2.2.2.1 wf_X13_1067 (.inl rfl) ?_
  refine kz_sti_n (M := kt_M345) [(0, .ref (w_adr E.2.1 12 0)), (2, .int x2)] kX13_actDeclarations_c2.2.2.2.1 (Nat.le_of_ble_eq_true rfl) ⟨⟨rfl, rfl, .inl rfl⟩, ⟨⟨rfl, rfl, .inr rfl⟩, trivial⟩⟩ rfl ?_
  refine kz_aload_n (M := kt_M345) kX13_actDeclarations_c2.2.2.2.2.1 rfl ?_
  refine kz_aload_n (M := kt_M345) kX13_actDeclarations_c2.2.2.2.2.2.1 rfl ?_
  refine kz_gfc (M := kt_M345) (x := 4098) (c := 12) (o := 0) kX13_actDeclarations_c2.2.2.2.2.2.2.1 wf_X13_187 (.inl rfl) ?_
  refine kz_iload_n (M := kt_M345) kX13_actDeclarations_c2.2.2.2.2.2.2.2.1 rfl ?_
  refine kz_iald (M := kt_M345) (c := 12) (o := 0) (k := 26) (a := (E.2.1 4098)) kX13_actDeclarations_c3.1 ow_12_0_26 oa_12_0_26 ot_0 h (fun h => ?_)
  refine kz_bi (M := kt_M345) 38 kX13_actDeclarations_c3.2.1 rfl ?_
  refine kz_icmp_ne (M := kt_M345) kX13_actDeclarations_c3.2.2.1 (t := 52) rfl h (fun h => ?_) (fun h => ?_)
  · skip
    refine kz_aload_n (M := kt_M345) kX13_actDeclarations_c3.2.2.2.2.2.1 rfl ?_
    refine kz_gfi (M := kt_M345) (c := 12) (o := 0) kX13_actDeclarations_c3.2.2.2.2.2.2.1 wf_X13_1067 (.inl rfl) ?_
    exact kz_weak [(0, .ref (w_adr E.2.1 12 0)), (2, .int x2), (3, .int (w_i w 12 0 100))] ⟨rfl, ⟨rfl, ⟨rfl, trivial⟩⟩⟩ rfl (zt_X13_actDeclarations_p56 hL  h)
  · skip
    refine kz_iload_n (M := kt_M345) kX13_actDeclarations_c3.2.2.2.1 rfl ?_
    refine kz_goto (M := kt_M345) kX13_actDeclarations_c3.2.2.2.2.1 (t := 56) rfl ?_
    exact kz_weak [(0, .ref (w_adr E.2.1 12 0)), (2, .int x2), (3, .int (w_i w 12 0 100))] ⟨rfl, ⟨rfl, ⟨rfl, trivial⟩⟩⟩ rfl (zt_X13_actDeclarations_p56 hL  h)
def zb_X13_actDeclarations_p2 (E : zE) (L : Nat) (Q : kx_Rs → wS → Prop) (x2 : Int32) (w : wS) : Prop := (if x2 < 0 then Q (.inl none) w else (kx_inb x2 (w_n w 12 0 26) = true ∧ (if w_a w 12 0 26 (x2).toNatClampNeg = 37 then zb_X13_actDeclarations_p31 E L Q x2 w else (kx_inb x2 (w_n w 12 0 26) = true ∧ (if w_a w 12 0 26 (x2).toNatClampNeg = 38 then zb_X13_actDeclarations_p31 E L Q x2 w else zb_X13_actDeclarations_p109 E L Q x2 w)))))
theorem zt_X13_actDeclarations_p2 {E : zE} {L : Nat} {Q : kx_Rs → wS → Prop} {x2 : Int32} {w : wS} (hL : 26 ≤ L) (h : zb_X13_actDeclarations_p2 E L Q x2 w) : kzE E L kt_M345 2 [(0, .ref (w_adr E.2.1 12 0)), (2, .int x2)] [] w Q := by
  unfold zb_X13_actDeclarations_p2 at h
  refine kz_iload_n (M := kt_M345) kX13_actDeclarations_c0.2.2.1 rfl ?_
  refine kz_if_lt (M := kt_M345) kX13_actDeclarations_c0.2.2.2.1 (t := 119) rfl h (fun h => ?_) (fun h => ?_)
  · skip
    exact kz_ret (M := kt_M345) kX13_actDeclarations_c8.2.2.2.1 rfl h
  · skip
    refine kz_aload_n (M := kt_M345) kX13_actDeclarations_c0.2.2.2.2.1 rfl ?_
    refine kz_gfc (M := kt_M345) (x := 4098) (c := 12) (o := 0) kX13_actDeclarations_c0.2.2.2.2.2.1 wf_X13_187 (.inl rfl) ?_
    refine kz_iload_n (M := kt_M345) kX13_actDeclarations_c0.2.2.2.2.2.2.1 rfl ?_
    refine kz_iald (M := kt_M345) (c := 12) (o := 0) (k := 26) (a := (E.2.1 4098)) kX13_actDeclarations_c0.2.2.2.2.2.2.2.1 ow_12_0_26 oa_12_0_26 ot_0 h (fun h => ?_)
    refine kz_bi (M := kt_M345) 37 kX13_actDeclarations_c1.1 rfl ?_
    refine kz_icmp_eq (M := kt_M345) kX13_actDeclarations_c1.2.1 (t := 31) rfl h (fun h => ?_) (fun h => ?_)
    · skip
      exact kz_weak [(0, .ref (w_adr E.2.1 12 0)), (2, .int x2)] ⟨rfl, ⟨rfl, trivial⟩⟩ rfl (zt_X13_actDeclarations_p31 hL  h)
    · skip
      refine kz_aload_n (M := kt_M345) kX13_actDeclarations_c1.2.2.1 rfl ?_
      refine kz_gfc (M := kt_M345) (x := 4098) (c := 12) (o := 0) kX13_actDeclarations_c1.2.2.2.1 wf_X13_187 (.inl rfl) ?_
      refine kz_iload_n (M := kt_M345) kX13_actDeclarations_c1.2.2.2.2.1 rfl ?_
      refine kz_iald (M := kt_M345) (c := 12) (o := 0) (k := 26) (a := (E.2.1 4098)) kX13_actDeclarations_c1.2.2.2.2.2.1 ow_12_0_26 oa_12_0_26 ot_0 h (fun h => ?_)
      refine kz_bi (M := kt_M345) 38 kX13_actDeclarations_c1.2.2.2.2.2.2.1 rfl ?_
      refine kz_icmp_eq (M := kt_M345) kX13_actDeclarations_c1.2.2.2.2.2.2.2.1 (t := 31) rfl h (fun h => ?_) (fun h => ?_)
      · skip
        exact kz_weak [(0, .ref (w_adr E.2.1 12 0)), (2, .int x2)] ⟨rfl, ⟨rfl, trivial⟩⟩ rfl (zt_X13_actDeclarations_p31 hL  h)
      · skip
        refine kz_goto (M := kt_M345) kX13_actDeclarations_c2.1 (t := 109) rfl ?_
        exact kz_weak [(0, .ref (w_adr E.2.1 12 0)), (2, .int x2)] ⟨rfl, ⟨rfl, trivial⟩⟩ rfl (zt_X13_actDeclarations_p109 hL  h)
def zb_X13_actDeclarations_p0 (E : zE) (L : Nat) (Q : kx_Rs → wS → Prop) (x1 : Int32) (w : wS) : Prop := zL_X13_actDeclarations_p2 E L Q x1 w
theorem zt_X13_actDeclarations_p0 {E : zE} {L : Nat} {Q : kx_Rs → wS → Prop} {x1 : Int32} {w : wS} (hL : 26 ≤ L) (h : zb_X13_actDeclarations_p0 E L Q x1 w) : kzE E L kt_M345 0 [(0, .ref (w_adr E.2.1 12 0)), (1, .int x1)] [] w Q := by
  unfold zb_X13_actDeclarations_p0 at h
  refine kz_iload_n (M := kt_M345) kX13_actDeclarations_c0.1 rfl ?_
  refine kz_sti_n (M := kt_M345) [(0, .ref (w_adr E.2.1 12 0))] kX13_actDeclarations_c0.2.1 (Nat.le_of_ble_eq_true rfl) ⟨⟨rfl, rfl, .inl rfl⟩, trivial⟩ rfl ?_
  exact kz_weak [(0, .ref (w_adr E.2.1 12 0)), (2, .int x1)] ⟨rfl, ⟨rfl, trivial⟩⟩ rfl h
def zL_X13_summarise_p53 (E : zE) (L : Nat) (Q : kx_Rs → wS → Prop) (x1 : Int32) (x2 : Int32) (x3 : Int32) (x4 : Int32) (x5 : Int32) (x6 : Int32) (w : wS) : Prop := kzE E L kt_M549 53 [(0, .ref (w_adr E.2.1 12 0)), (1, .int x1), (2, .int x2), (3, .int x3), (4, .int x4), (5, .int x5), (6, .int x6)] [] w Q
def zb_X13_summarise_p170 (E : zE) (L : Nat) (Q : kx_Rs → wS → Prop) (x1 : Int32) (x2 : Int32) (x3 : Int32) (x4 : Int32) (x5 : Int32) (w : wS) : Prop := (kx_inb x1 (w_n w 12 0 84) = true ∧ (kx_inb x1 (w_n w 12 0 85) = true ∧ ((x5 = 0 ∨ x5 = 1) ∧ Q (.inl none) (ws_i (ws_i (ws_i (ws_i (ws_a (ws_a w 12 0 84 (x1).toNatClampNeg (w_i w 12 0 80)) 12 0 85 (x1).toNatClampNeg (vp_nar .boolean (w_i w 12 0 88))) 12 0 86 x2) 12 0 87 x3) 12 0 99 x4) 12 0 88 x5))))
theorem zt_X13_summarise_p170 {E : zE} {L : Nat} {Q : kx_Rs → wS → Prop} {x1 : Int32} {x2 : Int32} {x3 : Int32} {x4 : Int32} {x5 : Int32} {w : wS} (hL : 23 ≤ L) (h : zb_X13_summarise_p170 E L Q x1 x2 x3 x4 x5 w) : kzE E L kt_M549 170 [(0, .ref (w_adr E.2.1 12 0)), (1, .int x1), (2, .int x2), (3, .int x3), (4, .int x4), (5, .int x5)] [] w Q := by
  unfold zb_X13_summarise_p170 at h
  refine kz_aload_n (M := kt_M549) kX13_summarise_c12.2.1 rfl ?_
  refine kz_gfc (M := kt_M549) (x := 4156) (c := 12) (o := 0) kX13_summarise_c12.2.2.1 wf_X13_304 (.inl rfl) ?_
  refine kz_iload_n (M := kt_M549) kX13_summarise_c12.2.2.2.1 rfl ?_
  refine kz_aload_n (M := kt_M549) kX13_summarise_c12.2.2.2.2.1 rfl ?_
  refine kz_gfi (M := kt_M549) (c := 12) (o := 0) kX13_summarise_c12.2.2.2.2.2.1 wf_X13_1004 (.inl rfl) ?_
  refine kz_iast (M := kt_M549) (c := 12) (o := 0) (k := 84) (a := (E.2.1 4156)) kX13_summarise_c12.2.2.2.2.2.2.1 ow_12_0_84 oa_12_0_84 ot_0 h (fun h => ?_)
  refine kz_aload_n (M := kt_M549) kX13_summarise_c12.2.2.2.2.2.2.2.1 rfl ?_
  refine kz_gfc (M := kt_M549) (x := 4157) (c := 12) (o := 0) kX13_summarise_c13.1 wf_X13_307 (.inl rfl) ?_
  refine kz_iload_n (M := kt_M549) kX13_summarise_c13.2.1 rfl ?_
  refine kz_aload_n (M := kt_M549) kX13_summarise_c13.2.2.1 rfl ?_
  refine kz_gfiR (M := kt_M549) (c := 12) (o := 0) (w_i w 12 0 88) kX13_summarise_c13.2.2.2.1 wf_X13_1049 (.inl rfl) rd_i_a ?_
  refine kz_zastR (M := kt_M549) (n := w_n w 12 0 85) (c := 12) (o := 0) (k := 85) (a := (E.2.1 4157)) kX13_summarise_c13.2.2.2.2.1 ow_12_0_85 oa_12_0_85 ot_2 rd_n_a h (fun h => ?_)
  refine kz_aload_n (M := kt_M549) kX13_summarise_c13.2.2.2.2.2.1 rfl ?_
  refine kz_iload_n (M := kt_M549) kX13_summarise_c13.2.2.2.2.2.2.1 rfl ?_
  refine kz_pfi (M := kt_M549) (c := 12) (o := 0) kX13_summarise_c13.2.2.2.2.2.2.2.1 wq_X13_1001 (.inl rfl) ?_
  refine kz_aload_n (M := kt_M549) kX13_summarise_c14.1 rfl ?_
  refine kz_iload_n (M := kt_M549) kX13_summarise_c14.2.1 rfl ?_
  refine kz_pfi (M := kt_M549) (c := 12) (o := 0) kX13_summarise_c14.2.2.1 wq_X13_1011 (.inl rfl) ?_
  refine kz_aload_n (M := kt_M549) kX13_summarise_c14.2.2.2.1 rfl ?_
  refine kz_iload (M := kt_M549) kX13_summarise_c14.2.2.2.2.1 rfl ?_
  refine kz_pfi (M := kt_M549) (c := 12) (o := 0) kX13_summarise_c14.2.2.2.2.2.1 wq_X13_1014 (.inl rfl) ?_
  refine kz_aload_n (M := kt_M549) kX13_summarise_c14.2.2.2.2.2.2.1 rfl ?_
  refine kz_iload (M := kt_M549) kX13_summarise_c14.2.2.2.2.2.2.2.1 rfl ?_
  obtain ⟨h0, h⟩ := h
  refine kz_pfz (M := kt_M549) (c := 12) (o := 0) kX13_summarise_c15.1 wq_X13_1049 (.inl rfl) h0 ?_
  exact kz_ret (M := kt_M549) kX13_summarise_c15.2.1 rfl h
def zb_X13_summarise_p138 (E : zE) (L : Nat) (Q : kx_Rs → wS → Prop) (x1 : Int32) (x2 : Int32) (x3 : Int32) (x4 : Int32) (x5 : Int32) (w : wS) : Prop := (kx_inb x1 (w_n w 12 0 26) = true ∧ (if ¬ w_a w 12 0 26 (x1).toNatClampNeg = 38 then zb_X13_summarise_p170 E L Q x1 x2 x3 x4 x5 w else (kx_inb x1 (w_n w 12 0 41) = true ∧ (kx_inb x1 (w_n w 12 0 41) = true ∧ (kx_inb (w_a w 12 0 41 (x1).toNatClampNeg) (w_n w 12 0 27) = true ∧ zw E (L - 23) kt_M592 [.ref (w_adr E.2.1 12 0), .int (w_a w 12 0 41 (x1).toNatClampNeg), .int (w_a w 12 0 27 (w_a w 12 0 41 (x1).toNatClampNeg).toNatClampNeg)] w (wk0 (fun w1 => wle w w1 → zb_X13_summarise_p170 E L Q x1 x2 x3 x4 x5 w1) (fun e w => Q (.inr e) w)))))))
theorem zt_X13_summarise_p138 {E : zE} {L : Nat} {Q : kx_Rs → wS → Prop} {x1 : Int32} {x2 : Int32} {x3 : Int32} {x4 : Int32} {x5 : Int32} {w : wS} (hL : 23 ≤ L) (h : zb_X13_summarise_p138 E L Q x1 x2 x3 x4 x5 w) : kzE E L kt_M549 138 [(0, .ref (w_adr E.2.1 12 0)), (1, .int x1), (2, .int x2), (3, .int x3), (4, .int x4), (5, .int x5)] [] w Q := by
  unfold zb_X13_summarise_p138 at h
  refine kz_aload_n (M := kt_M549) kX13_summarise_c9.2.2.2.2.2.2.1 rfl ?_
  refine kz_gfc (M := kt_M549) (x := 4098) (c := 12) (o := 0) kX13_summarise_c9.2.2.2.2.2.2.2.1 wf_X13_187 (.inl rfl) ?_
  refine kz_iload_n (M := kt_M549) kX13_summarise_c10.1 rfl ?_
  refine kz_iald (M := kt_M549) (c := 12) (o := 0) (k := 26) (a := (E.2.1 4098)) kX13_summarise_c10.2.1 ow_12_0_26 oa_12_0_26 ot_0 h (fun h => ?_)
  refine kz_bi (M := kt_M549) 38 kX13_summarise_c10.2.2.1 rfl ?_
  refine kz_icmp_ne (M := kt_M549) kX13_summarise_c10.2.2.2.1 (t := 170) rfl h (fun h => ?_) (fun h => ?_)
  · skip
    exact kz_weak [(0, .ref (w_adr E.2.1 12 0)), (1, .int x1), (2, .int x2), (3, .int x3), (4, .int x4), (5, .int x5)] ⟨rfl, ⟨rfl, ⟨rfl, ⟨rfl, ⟨rfl, ⟨rfl, trivial⟩⟩⟩⟩⟩⟩ rfl (zt_X13_summarise_p170 hL  h)
  · skip
    refine kz_aload_n (M := kt_M549) kX13_summarise_c10.2.2.2.2.1 rfl ?_
    refine kz_aload_n (M := kt_M549) kX13_summarise_c10.2.2.2.2.2.1 rfl ?_
    refine kz_gfc (M := kt_M549) (x := 4113) (c := 12) (o := 0) kX13_summarise_c10.2.2.2.2.2.2.1 wf_X13_214 (.inl rfl) ?_
    refine kz_iload_n (M := kt_M549) kX13_summarise_c10.2.2.2.2.2.2.2.1 rfl ?_
    refine kz_iald (M := kt_M549) (c := 12) (o := 0) (k := 41) (a := (E.2.1 4113)) kX13_summarise_c11.1 ow_12_0_41 oa_12_0_41 ot_0 h (fun h => ?_)
    refine kz_aload_n (M := kt_M549) kX13_summarise_c11.2.1 rfl ?_
    refine kz_gfc (M := kt_M549) (x := 4099) (c := 12) (o := 0) kX13_summarise_c11.2.2.1 wf_X13_190 (.inl rfl) ?_
    refine kz_aload_n (M := kt_M549) kX13_summarise_c11.2.2.2.1 rfl ?_
    refine kz_gfc (M := kt_M549) (x := 4113) (c := 12) (o := 0) kX13_summarise_c11.2.2.2.2.1 wf_X13_214 (.inl rfl) ?_
    refine kz_iload_n (M := kt_M549) kX13_summarise_c11.2.2.2.2.2.1 rfl ?_
    refine kz_iald (M := kt_M549) (c := 12) (o := 0) (k := 41) (a := (E.2.1 4113)) kX13_summarise_c11.2.2.2.2.2.2.1 ow_12_0_41 oa_12_0_41 ot_0 h (fun h => ?_)
    refine kz_iald (M := kt_M549) (c := 12) (o := 0) (k := 27) (a := (E.2.1 4099)) kX13_summarise_c11.2.2.2.2.2.2.2.1 ow_12_0_27 oa_12_0_27 ot_0 h (fun h => ?_)
    refine kz_cv0 (M := kt_M549) (c := 12) (o := 0) (As := [.int (w_a w 12 0 41 (x1).toNatClampNeg), .int (w_a w 12 0 27 (w_a w 12 0 41 (x1).toNatClampNeg).toNatClampNeg)]) (rest := []) kX13_summarise_c12.1 wl_X13_1034 wMv_592 rfl (.inl rfl) rfl (Nat.le_trans (Nat.le_of_ble_eq_true rfl) hL) (Nat.le_of_ble_eq_true rfl) (Nat.le_of_ble_eq_true rfl) h (fun w1 hle h => ?_) (fun _ _ _ h => kzx_no rfl h)
    have h := h hle
    exact kz_weak [(0, .ref (w_adr E.2.1 12 0)), (1, .int x1), (2, .int x2), (3, .int x3), (4, .int x4), (5, .int x5)] ⟨rfl, ⟨rfl, ⟨rfl, ⟨rfl, ⟨rfl, ⟨rfl, trivial⟩⟩⟩⟩⟩⟩ rfl (zt_X13_summarise_p170 hL  h)
def zb_X13_summarise_p119 (E : zE) (L : Nat) (Q : kx_Rs → wS → Prop) (x1 : Int32) (x2 : Int32) (x3 : Int32) (x4 : Int32) (x5 : Int32) (w : wS) : Prop := (kx_inb x1 (w_n w 12 0 29) = true ∧ (if w_a w 12 0 29 (x1).toNatClampNeg < 0 then zb_X13_summarise_p138 E L Q x1 x2 x3 x4 x5 w else (kx_inb x1 (w_n w 12 0 29) = true ∧ zw E (L - 21) kt_M589 [.ref (w_adr E.2.1 12 0), .int (w_a w 12 0 29 (x1).toNatClampNeg)] w (wk0 (fun w1 => wle w w1 → zb_X13_summarise_p138 E L Q x1 x2 x3 x4 x5 w1) (fun e w => Q (.inr e) w)))))
theorem zt_X13_summarise_p119 {E : zE} {L : Nat} {Q : kx_Rs → wS → Prop} {x1 : Int32} {x2 : Int32} {x3 : Int32} {x4 : Int32} {x5 : Int32} {w : wS} (hL : 23 ≤ L) (h : zb_X13_summarise_p119 E L Q x1 x2 x3 x4 x5 w) : kzE E L kt_M549 119 [(0, .ref (w_adr E.2.1 12 0)), (1, .int x1), (2, .int x2), (3, .int x3), (4, .int x4), (5, .int x5)] [] w Q := by
  unfold zb_X13_summarise_p119 at h
  refine kz_aload_n (M := kt_M549) kX13_summarise_c8.2.2.2.1 rfl ?_
  refine kz_gfc (M := kt_M549) (x := 4101) (c := 12) (o := 0) kX13_summarise_c8.2.2.2.2.1 wf_X13_196 (.inl rfl) ?_
  refine kz_iload_n (M := kt_M549) kX13_summarise_c8.2.2.2.2.2.1 rfl ?_
  refine kz_iald (M := kt_M549) (c := 12) (o := 0) (k := 29) (a := (E.2.1 4101)) kX13_summarise_c8.2.2.2.2.2.2.1 ow_12_0_29 oa_12_0_29 ot_0 h (fun h => ?_)
  refine kz_if_lt (M := kt_M549) kX13_summarise_c8.2.2.2.2.2.2.2.1 (t := 138) rfl h (fun h => ?_) (fun h => ?_)
  · skip
    exact kz_weak [(0, .ref (w_adr E.2.1 12 0)), (1, .int x1), (2, .int x2), (3, .int x3), (4, .int x4), (5, .int x5)] ⟨rfl, ⟨rfl, ⟨rfl, ⟨rfl, ⟨rfl, ⟨rfl, trivial⟩⟩⟩⟩⟩⟩ rfl (zt_X13_summarise_p138 hL  h)
  · skip
    refine kz_aload_n (M := kt_M549) kX13_summarise_c9.1 rfl ?_
    refine kz_aload_n (M := kt_M549) kX13_summarise_c9.2.1 rfl ?_
    refine kz_gfc (M := kt_M549) (x := 4101) (c := 12) (o := 0) kX13_summarise_c9.2.2.1 wf_X13_196 (.inl rfl) ?_
    refine kz_iload_n (M := kt_M549) kX13_summarise_c9.2.2.2.1 rfl ?_
    refine kz_iald (M := kt_M549) (c := 12) (o := 0) (k := 29) (a := (E.2.1 4101)) kX13_summarise_c9.2.2.2.2.1 ow_12_0_29 oa_12_0_29 ot_0 h (fun h => ?_)
    refine kz_cv0 (M := kt_M549) (c := 12) (o := 0) (As := [.int (w_a w 12 0 29 (x1).toNatClampNeg)]) (rest := []) kX13_summarise_c9.2.2.2.2.2.1 wl_X13_1052 wMv_589 rfl (.inl rfl) rfl (Nat.le_trans (Nat.le_of_ble_eq_true rfl) hL) (Nat.le_of_ble_eq_true rfl) (Nat.le_of_ble_eq_true rfl) h (fun w1 hle h => ?_) (fun _ _ _ h => kzx_no rfl h)
    have h := h hle
    exact kz_weak [(0, .ref (w_adr E.2.1 12 0)), (1, .int x1), (2, .int x2), (3, .int x3), (4, .int x4), (5, .int x5)] ⟨rfl, ⟨rfl, ⟨rfl, ⟨rfl, ⟨rfl, ⟨rfl, trivial⟩⟩⟩⟩⟩⟩ rfl (zt_X13_summarise_p138 hL  h)
def zb_X13_summarise_p53 (E : zE) (L : Nat) (Q : kx_Rs → wS → Prop) (x1 : Int32) (x2 : Int32) (x3 : Int32) (x4 : Int32) (x5 : Int32) (x6 : Int32) (w : wS) : Prop := (if x6 < 0 then (kx_inb x1 (w_n w 12 0 83) = true ∧ (kx_inb x1 (w_n w 12 0 26) = true ∧ (if ¬ w_a w 12 0 26 (x1).toNatClampNeg = 38 then zb_X13_summarise_p119 E L Q x1 x2 x3 x4 x5 (ws_a (ws_i w 12 0 88 0) 12 0 83 (x1).toNatClampNeg (w_i w 12 0 80)) else (kx_inb x1 (w_n w 12 0 42) = true ∧ zw E (L - 22) kt_M591 [.ref (w_adr E.2.1 12 0), .int (w_a w 12 0 42 (x1).toNatClampNeg)] (ws_a (ws_i w 12 0 88 0) 12 0 83 (x1).toNatClampNeg (w_i w 12 0 80)) (wk0 (fun w1 => wle (ws_a (ws_i w 12 0 88 0) 12 0 83 (x1).toNatClampNeg (w_i w 12 0 80)) w1 → zb_X13_summarise_p119 E L Q x1 x2 x3 x4 x5 w1) (fun e w => Q (.inr e) w)))))) else (kx_inb x6 (w_n w 12 0 31) = true ∧ (kx_inb x6 (w_n w 12 0 32) = true ∧ zL_X13_summarise_p53 E L Q x1 x2 x3 x4 x5 (w_a w 12 0 32 (x6).toNatClampNeg) (ws_i w 12 0 99 ((w_a w 12 0 31 (x6).toNatClampNeg) + 1)))))
theorem zt_X13_summarise_p53 {E : zE} {L : Nat} {Q : kx_Rs → wS → Prop} {x1 : Int32} {x2 : Int32} {x3 : Int32} {x4 : Int32} {x5 : Int32} {x6 : Int32} {w : wS} (hL : 23 ≤ L) (h : zb_X13_summarise_p53 E L Q x1 x2 x3 x4 x5 x6 w) : kzE E L kt_M549 53 [(0, .ref (w_adr E.2.1 12 0)), (1, .int x1), (2, .int x2), (3, .int x3), (4, .int x4), (5, .int x5), (6, .int x6)] [] w Q := by
  unfold zb_X13_summarise_p53 at h
  refine kz_iload (M := kt_M549) kX13_summarise_c3.2.2.2.2.2.2.1 rfl ?_
  refine kz_if_lt (M := kt_M549) kX13_summarise_c3.2.2.2.2.2.2.2.1 (t := 83) rfl h (fun h => ?_) (fun h => ?_)
  · skip
    refine kz_aload_n (M := kt_M549) kX13_summarise_c5.2.2.2.2.2.2.1 rfl ?_
    refine kz_ic (M := kt_M549) 0 kX13_summarise_c5.2.2.2.2.2.2.2.1 rfl ?_
    refine kz_pfz (M := kt_M549) (c := 12) (o := 0) kX13_summarise_c6.1 wq_X13_1049 (.inl rfl) (by decide) ?_
    refine kz_aload_n (M := kt_M549) kX13_summarise_c6.2.1 rfl ?_
    refine kz_gfc (M := kt_M549) (x := 4155) (c := 12) (o := 0) kX13_summarise_c6.2.2.1 wf_X13_301 (.inl rfl) ?_
    refine kz_iload_n (M := kt_M549) kX13_summarise_c6.2.2.2.1 rfl ?_
    refine kz_aload_n (M := kt_M549) kX13_summarise_c6.2.2.2.2.1 rfl ?_
    refine kz_gfiR (M := kt_M549) (c := 12) (o := 0) (w_i w 12 0 80) kX13_summarise_c6.2.2.2.2.2.1 wf_X13_1004 (.inl rfl) (rd_i_i rfl) ?_
    refine kz_iastR (M := kt_M549) (n := w_n w 12 0 83) (c := 12) (o := 0) (k := 83) (a := (E.2.1 4155)) kX13_summarise_c6.2.2.2.2.2.2.1 ow_12_0_83 oa_12_0_83 ot_0 rd_n_i h (fun h => ?_)
    refine kz_aload_n (M := kt_M549) kX13_summarise_c6.2.2.2.2.2.2.2.1 rfl ?_
    refine kz_gfc (M := kt_M549) (x := 4098) (c := 12) (o := 0) kX13_summarise_c7.1 wf_X13_187 (.inl rfl) ?_
    refine kz_iload_n (M := kt_M549) kX13_summarise_c7.2.1 rfl ?_
    refine kz_ialdR (M := kt_M549) (n := w_n w 12 0 26) (c := 12) (o := 0) (k := 26) (a := (E.2.1 4098)) (w_a w 12 0 26 (x1).toNatClampNeg) kX13_summarise_c7.2.2.1 ow_12_0_26 oa_12_0_26 ot_0 (rd_n_a.trans rd_n_i) ((rd_a_a rfl).trans rd_a_i) h (fun h => ?_)
    refine kz_bi (M := kt_M549) 38 kX13_summarise_c7.2.2.2.1 rfl ?_
    refine kz_icmp_ne (M := kt_M549) kX13_summarise_c7.2.2.2.2.1 (t := 119) rfl h (fun h => ?_) (fun h => ?_)
    · skip
      exact kz_weak [(0, .ref (w_adr E.2.1 12 0)), (1, .int x1), (2, .int x2), (3, .int x3), (4, .int x4), (5, .int x5)] ⟨rfl, ⟨rfl, ⟨rfl, ⟨rfl, ⟨rfl, ⟨rfl, trivial⟩⟩⟩⟩⟩⟩ rfl (zt_X13_summarise_p119 hL  h)
    · skip
      refine kz_aload_n (M := kt_M549) kX13_summarise_c7.2.2.2.2.2.1 rfl ?_
      refine kz_aload_n (M := kt_M549) kX13_summarise_c7.2.2.2.2.2.2.1 rfl ?_
      refine kz_gfc (M := kt_M549) (x := 4114) (c := 12) (o := 0) kX13_summarise_c7.2.2.2.2.2.2.2.1 wf_X13_217 (.inl rfl) ?_
      refine kz_iload_n (M := kt_M549) kX13_summarise_c8.1 rfl ?_
      refine kz_ialdR (M := kt_M549) (n := w_n w 12 0 42) (c := 12) (o := 0) (k := 42) (a := (E.2.1 4114)) (w_a w 12 0 42 (x1).toNatClampNeg) kX13_summarise_c8.2.1 ow_12_0_42 oa_12_0_42 ot_0 (rd_n_a.trans rd_n_i) ((rd_a_a rfl).trans rd_a_i) h (fun h => ?_)
      refine kz_cv0 (M := kt_M549) (c := 12) (o := 0) (As := [.int (w_a w 12 0 42 (x1).toNatClampNeg)]) (rest := []) kX13_summarise_c8.2.2.1 wl_X13_1043 wMv_591 rfl (.inl rfl) rfl (Nat.le_trans (Nat.le_of_ble_eq_true rfl) hL) (Nat.le_of_ble_eq_true rfl) (Nat.le_of_ble_eq_true rfl) h (fun w1 hle h => ?_) (fun _ _ _ h => kzx_no rfl h)
      have h := h hle
      exact kz_weak [(0, .ref (w_adr E.2.1 12 0)), (1, .int x1), (2, .int x2), (3, .int x3), (4, .int x4), (5, .int x5)] ⟨rfl, ⟨rfl, ⟨rfl, ⟨rfl, ⟨rfl, ⟨rfl, trivial⟩⟩⟩⟩⟩⟩ rfl (zt_X13_summarise_p119 hL  h)
  · skip
    refine kz_aload_n (M := kt_M549) kX13_summarise_c4.1 rfl ?_
    refine kz_aload_n (M := kt_M549) kX13_summarise_c4.2.1 rfl ?_
    refine kz_gfc (M := kt_M549) (x := 4103) (c := 12) (o := 0) kX13_summarise_c4.2.2.1 wf_X13_202 (.inl rfl) ?_
    refine kz_iload (M := kt_M549) kX13_summarise_c4.2.2.2.1 rfl ?_
    refine kz_iald (M := kt_M549) (c := 12) (o := 0) (k := 31) (a := (E.2.1 4103)) kX13_summarise_c4.2.2.2.2.1 ow_12_0_31 oa_12_0_31 ot_0 h (fun h => ?_)
    refine kz_ic (M := kt_M549) 1 kX13_summarise_c4.2.2.2.2.2.1 rfl ?_
    refine kz_iadd (M := kt_M549) kX13_summarise_c4.2.2.2.2.2.2.1 ?_
    refine kz_pfi (M := kt_M549) (c := 12) (o := 0) kX13_summarise_c4.2.2.2.2.2.2.2.1 wq_X13_1014 (.inl rfl) ?_
    refine kz_aload_n (M := kt_M549) kX13_summarise_c5.1 rfl ?_
    refine kz_gfc (M := kt_M549) (x := 4104) (c := 12) (o := 0) kX13_summarise_c5.2.1 wf_X13_205 (.inl rfl) ?_
    refine kz_iload (M := kt_M549) kX13_summarise_c5.2.2.1 rfl ?_
    refine kz_ialdR (M := kt_M549) (n := w_n w 12 0 32) (c := 12) (o := 0) (k := 32) (a := (E.2.1 4104)) (w_a w 12 0 32 (x6).toNatClampNeg) kX13_summarise_c5.2.2.2.1 ow_12_0_32 oa_12_0_32 ot_0 rd_n_i rd_a_i h (fun h => ?_)
    refine kz_sti (M := kt_M549) [(0, .ref (w_adr E.2.1 12 0)), (1, .int x1), (2, .int x2), (3, .int x3), (4, .int x4), (5, .int x5)] kX13_summarise_c5.2.2.2.2.1 (Nat.le_of_ble_eq_true rfl) ⟨⟨rfl, rfl, .inl rfl⟩, ⟨⟨rfl, rfl, .inl rfl⟩, ⟨⟨rfl, rfl, .inl rfl⟩, ⟨⟨rfl, rfl, .inl rfl⟩, ⟨⟨rfl, rfl, .inl rfl⟩, ⟨⟨rfl, rfl, .inr rfl⟩, trivial⟩⟩⟩⟩⟩⟩ rfl ?_
    refine kz_goto (M := kt_M549) kX13_summarise_c5.2.2.2.2.2.1 (t := 53) rfl ?_
    exact kz_weak [(0, .ref (w_adr E.2.1 12 0)), (1, .int x1), (2, .int x2), (3, .int x3), (4, .int x4), (5, .int x5), (6, .int (w_a w 12 0 32 (x6).toNatClampNeg))] ⟨rfl, ⟨rfl, ⟨rfl, ⟨rfl, ⟨rfl, ⟨rfl, ⟨rfl, trivial⟩⟩⟩⟩⟩⟩⟩ rfl h
def zb_X13_summarise_p0 (E : zE) (L : Nat) (Q : kx_Rs → wS → Prop) (x1 : Int32) (w : wS) : Prop := (kx_inb x1 (w_n w 12 0 67) = true ∧ (kx_inb x1 (w_n w 12 0 28) = true ∧ zL_X13_summarise_p53 E L Q x1 (w_i w 12 0 86) (w_i w 12 0 87) (w_i w 12 0 99) (w_i w 12 0 88) (w_a w 12 0 28 (x1).toNatClampNeg) (ws_i (ws_i (ws_i w 12 0 86 x1) 12 0 87 (w_a w 12 0 67 (x1).toNatClampNeg)) 12 0 99 (w_a w 12 0 67 (x1).toNatClampNeg))))
theorem zt_X13_summarise_p0 {E : zE} {L : Nat} {Q : kx_Rs → wS → Prop} {x1 : Int32} {w : wS} (hL : 23 ≤ L) (h : zb_X13_summarise_p0 E L Q x1 w) : kzE E L kt_M549 0 [(0, .ref (w_adr E.2.1 12 0)), (1, .int x1)] [] w Q := by
  unfold zb_X13_summarise_p0 at h
  refine kz_aload_n (M := kt_M549) kX13_summarise_c0.1 rfl ?_
  refine kz_gfi (M := kt_M549) (c := 12) (o := 0) kX13_summarise_c0.2.1 wf_X13_1001 (.inl rfl) ?_
  refine kz_sti_n (M := kt_M549) [(0, .ref (w_adr E.2.1 12 0)), (1, .int x1)] kX13_summarise_c0.2.2.1 (Nat.le_of_ble_eq_true rfl) ⟨⟨rfl, rfl, .inl rfl⟩, ⟨⟨rfl, rfl, .inr rfl⟩, trivial⟩⟩ rfl ?_
  refine kz_aload_n (M := kt_M549) kX13_summarise_c0.2.2.2.1 rfl ?_
  refine kz_gfi (M := kt_M549) (c := 12) (o := 0) kX13_summarise_c0.2.2.2.2.1 wf_X13_1011 (.inl rfl) ?_
  refine kz_sti_n (M := kt_M549) [(0, .ref (w_adr E.2.1 12 0)), (1, .int x1), (2, .int (w_i w 12 0 86))] kX13_summarise_c0.2.2.2.2.2.1 (Nat.le_of_ble_eq_true rfl) ⟨⟨rfl, rfl, .inl rfl⟩, ⟨⟨rfl, rfl, .inl rfl⟩, ⟨⟨rfl, rfl, .inr rfl⟩, trivial⟩⟩⟩ rfl ?_
  refine kz_aload_n (M := kt_M549) kX13_summarise_c0.2.2.2.2.2.2.1 rfl ?_
  refine kz_gfi (M := kt_M549) (c := 12) (o := 0) kX13_summarise_c0.2.2.2.2.2.2.2.1 wf_X13_1014 (.inl rfl) ?_
  refine kz_sti (M := kt_M549) [(0, .ref (w_adr E.2.1 12 0)), (1, .int x1), (2, .int (w_i w 12 0 86)), (3, .int (w_i w 12 0 87))] kX13_summarise_c1.1 (Nat.le_of_ble_eq_true rfl) ⟨⟨rfl, rfl, .inl rfl⟩, ⟨⟨rfl, rfl, .inl rfl⟩, ⟨⟨rfl, rfl, .inl rfl⟩, ⟨⟨rfl, rfl, .inr rfl⟩, trivial⟩⟩⟩⟩ rfl ?_
  refine kz_aload_n (M := kt_M549) kX13_summarise_c1.2.1 rfl ?_
  refine kz_gfi (M := kt_M549) (c := 12) (o := 0) kX13_summarise_c1.2.2.1 wf_X13_1049 (.inl rfl) ?_
  refine kz_sti (M := kt_M549) [(0, .ref (w_adr E.2.1 12 0)), (1, .int x1), (2, .int (w_i w 12 0 86)), (3, .int (w_i w 12 0 87)), (4, .int (w_i w 12 0 99))] kX13_summarise_c1.2.2.2.1 (Nat.le_of_ble_eq_true rfl) ⟨⟨rfl, rfl, .inl rfl⟩, ⟨⟨rfl, rfl, .inl rfl⟩, ⟨⟨rfl, rfl, .inl rfl⟩, ⟨⟨rfl, rfl, .inl rfl⟩, ⟨⟨rfl, rfl, .inr rfl⟩, trivial⟩⟩⟩⟩⟩ rfl ?_
  refine kz_aload_n (M := kt_M549) kX13_summarise_c1.2.2.2.2.1 rfl ?_
  refine kz_iload_n (M := kt_M549) kX13_summarise_c1.2.2.2.2.2.1 rfl ?_
  refine kz_pfi (M := kt_M549) (c := 12) (o := 0) kX13_summarise_c1.2.2.2.2.2.2.1 wq_X13_1001 (.inl rfl) ?_
  refine kz_aload_n (M := kt_M549) kX13_summarise_c1.2.2.2.2.2.2.2.1 rfl ?_
  refine kz_aload_n (M := kt_M549) kX13_summarise_c2.1 rfl ?_
  refine kz_gfc (M := kt_M549) (x := 4139) (c := 12) (o := 0) kX13_summarise_c2.2.1 wf_X13_269 (.inl rfl) ?_
  refine kz_iload_n (M := kt_M549) kX13_summarise_c2.2.2.1 rfl ?_
  refine kz_ialdR (M := kt_M549) (n := w_n w 12 0 67) (c := 12) (o := 0) (k := 67) (a := (E.2.1 4139)) (w_a w 12 0 67 (x1).toNatClampNeg) kX13_summarise_c2.2.2.2.1 ow_12_0_67 oa_12_0_67 ot_0 rd_n_i rd_a_i h (fun h => ?_)
  refine kz_pfi (M := kt_M549) (c := 12) (o := 0) kX13_summarise_c2.2.2.2.2.1 wq_X13_1011 (.inl rfl) ?_
  refine kz_aload_n (M := kt_M549) kX13_summarise_c2.2.2.2.2.2.1 rfl ?_
  refine kz_aload_n (M := kt_M549) kX13_summarise_c2.2.2.2.2.2.2.1 rfl ?_
  refine kz_gfiR (M := kt_M549) (c := 12) (o := 0) (w_a w 12 0 67 (x1).toNatClampNeg) kX13_summarise_c2.2.2.2.2.2.2.2.1 wf_X13_1011 (.inl rfl) rd_i_e ?_
  refine kz_pfi (M := kt_M549) (c := 12) (o := 0) kX13_summarise_c3.1 wq_X13_1014 (.inl rfl) ?_
  refine kz_aload_n (M := kt_M549) kX13_summarise_c3.2.1 rfl ?_
  refine kz_gfc (M := kt_M549) (x := 4100) (c := 12) (o := 0) kX13_summarise_c3.2.2.1 wf_X13_193 (.inl rfl) ?_
  refine kz_iload_n (M := kt_M549) kX13_summarise_c3.2.2.2.1 rfl ?_
  refine kz_ialdR (M := kt_M549) (n := w_n w 12 0 28) (c := 12) (o := 0) (k := 28) (a := (E.2.1 4100)) (w_a w 12 0 28 (x1).toNatClampNeg) kX13_summarise_c3.2.2.2.2.1 ow_12_0_28 oa_12_0_28 ot_0 (rd_n_i.trans (rd_n_i.trans rd_n_i)) (rd_a_i.trans (rd_a_i.trans rd_a_i)) h (fun h => ?_)
  refine kz_sti (M := kt_M549) [(0, .ref (w_adr E.2.1 12 0)), (1, .int x1), (2, .int (w_i w 12 0 86)), (3, .int (w_i w 12 0 87)), (4, .int (w_i w 12 0 99)), (5, .int (w_i w 12 0 88))] kX13_summarise_c3.2.2.2.2.2.1 (Nat.le_of_ble_eq_true rfl) ⟨⟨rfl, rfl, .inl rfl⟩, ⟨⟨rfl, rfl, .inl rfl⟩, ⟨⟨rfl, rfl, .inl rfl⟩, ⟨⟨rfl, rfl, .inl rfl⟩, ⟨⟨rfl, rfl, .inl rfl⟩, ⟨⟨rfl, rfl, .inr rfl⟩, trivial⟩⟩⟩⟩⟩⟩ rfl ?_
  exact kz_weak [(0, .ref (w_adr E.2.1 12 0)), (1, .int x1), (2, .int (w_i w 12 0 86)), (3, .int (w_i w 12 0 87)), (4, .int (w_i w 12 0 99)), (5, .int (w_i w 12 0 88)), (6, .int (w_a w 12 0 28 (x1).toNatClampNeg))] ⟨rfl, ⟨rfl, ⟨rfl, ⟨rfl, ⟨rfl, ⟨rfl, ⟨rfl, trivial⟩⟩⟩⟩⟩⟩⟩ rfl h
def zL_X13_useDeclarations_p2 (E : zE) (L : Nat) (Q : kx_Rs → wS → Prop) (x2 : Int32) (w : wS) : Prop := kzE E L kt_M591 2 [(0, .ref (w_adr E.2.1 12 0)), (2, .int x2)] [] w Q
def zb_X13_useDeclarations_p79 (E : zE) (L : Nat) (Q : kx_Rs → wS → Prop) (x2 : Int32) (w : wS) : Prop := (kx_inb x2 (w_n w 12 0 32) = true ∧ zL_X13_useDeclarations_p2 E L Q (w_a w 12 0 32 (x2).toNatClampNeg) w)
theorem zt_X13_useDeclarations_p79 {E : zE} {L : Nat} {Q : kx_Rs → wS → Prop} {x2 : Int32} {w : wS} (hL : 23 ≤ L) (h : zb_X13_useDeclarations_p79 E L Q x2 w) : kzE E L kt_M591 79 [(0, .ref (w_adr E.2.1 12 0)), (2, .int x2)] [] w Q := by
  unfold zb_X13_useDeclarations_p79 at h
  refine kz_aload_n (M := kt_M591) kX13_useDeclarations_c5.2.2.2.2.2.2.2.1 rfl ?_
  refine kz_gfc (M := kt_M591) (x := 4104) (c := 12) (o := 0) kX13_useDeclarations_c6.1 wf_X13_205 (.inl rfl) ?_
  refine kz_iload_n (M := kt_M591) kX13_useDeclarations_c6.2.1 rfl ?_
  refine kz_iald (M := kt_M591) (c := 12) (o := 0) (k := 32) (a := (E.2.1 4104)) kX13_useDeclarations_c6.2.2.1 ow_12_0_32 oa_12_0_32 ot_0 h (fun h => ?_)
  refine kz_sti_n (M := kt_M591) [(0, .ref (w_adr E.2.1 12 0))] kX13_useDeclarations_c6.2.2.2.1 (Nat.le_of_ble_eq_true rfl) ⟨⟨rfl, rfl, .inl rfl⟩, trivial⟩ rfl ?_
  refine kz_goto (M := kt_M591) kX13_useDeclarations_c6.2.2.2.2.1 (t := 2) rfl ?_
  exact kz_weak [(0, .ref (w_adr E.2.1 12 0)), (2, .int (w_a w 12 0 32 (x2).toNatClampNeg))] ⟨rfl, ⟨rfl, trivial⟩⟩ rfl h
def zb_X13_useDeclarations_p33 (E : zE) (L : Nat) (Q : kx_Rs → wS → Prop) (x2 : Int32) (w : wS) : Prop := (kx_inb x2 (w_n w 12 0 26) = true ∧ (if ¬ w_a w 12 0 26 (x2).toNatClampNeg = 34 then zb_X13_useDeclarations_p79 E L Q x2 w else (kx_inb x2 (w_n w 12 0 28) = true ∧ (kx_inb (w_a w 12 0 28 (x2).toNatClampNeg) (w_n w 12 0 28) = true ∧ (if w_a w 12 0 28 (w_a w 12 0 28 (x2).toNatClampNeg).toNatClampNeg < 0 then zb_X13_useDeclarations_p79 E L Q x2 w else (kx_inb x2 (w_n w 12 0 28) = true ∧ (kx_inb (w_a w 12 0 28 (x2).toNatClampNeg) (w_n w 12 0 28) = true ∧ (kx_inb x2 (w_n w 12 0 27) = true ∧ zw E (L - 23) kt_M592 [.ref (w_adr E.2.1 12 0), .int (w_a w 12 0 28 (w_a w 12 0 28 (x2).toNatClampNeg).toNatClampNeg), .int (w_a w 12 0 27 (x2).toNatClampNeg)] w (wk0 (fun w1 => wle w w1 → zb_X13_useDeclarations_p79 E L Q x2 w1) (fun e w => Q (.inr e) w))))))))))
theorem zt_X13_useDeclarations_p33 {E : zE} {L : Nat} {Q : kx_Rs → wS → Prop} {x2 : Int32} {w : wS} (hL : 23 ≤ L) (h : zb_X13_useDeclarations_p33 E L Q x2 w) : kzE E L kt_M591 33 [(0, .ref (w_adr E.2.1 12 0)), (2, .int x2)] [] w Q := by
  unfold zb_X13_useDeclarations_p33 at h
  refine kz_aload_n (M := kt_M591) kX13_useDeclarations_c2.2.2.2.2.1 rfl ?_
  refine kz_gfc (M := kt_M591) (x := 4098) (c := 12) (o := 0) kX13_useDeclarations_c2.2.2.2.2.2.1 wf_X13_187 (.inl rfl) ?_
  refine kz_iload_n (M := kt_M591) kX13_useDeclarations_c2.2.2.2.2.2.2.1 rfl ?_
  refine kz_iald (M := kt_M591) (c := 12) (o := 0) (k := 26) (a := (E.2.1 4098)) kX13_useDeclarations_c2.2.2.2.2.2.2.2.1 ow_12_0_26 oa_12_0_26 ot_0 h (fun h => ?_)
  refine kz_bi (M := kt_M591) 34 kX13_useDeclarations_c3.1 rfl ?_
  refine kz_icmp_ne (M := kt_M591) kX13_useDeclarations_c3.2.1 (t := 79) rfl h (fun h => ?_) (fun h => ?_)
  · skip
    exact kz_weak [(0, .ref (w_adr E.2.1 12 0)), (2, .int x2)] ⟨rfl, ⟨rfl, trivial⟩⟩ rfl (zt_X13_useDeclarations_p79 hL  h)
  · skip
    refine kz_aload_n (M := kt_M591) kX13_useDeclarations_c3.2.2.1 rfl ?_
    refine kz_gfc (M := kt_M591) (x := 4100) (c := 12) (o := 0) kX13_useDeclarations_c3.2.2.2.1 wf_X13_193 (.inl rfl) ?_
    refine kz_aload_n (M := kt_M591) kX13_useDeclarations_c3.2.2.2.2.1 rfl ?_
    refine kz_gfc (M := kt_M591) (x := 4100) (c := 12) (o := 0) kX13_useDeclarations_c3.2.2.2.2.2.1 wf_X13_193 (.inl rfl) ?_
    refine kz_iload_n (M := kt_M591) kX13_useDeclarations_c3.2.2.2.2.2.2.1 rfl ?_
    refine kz_iald (M := kt_M591) (c := 12) (o := 0) (k := 28) (a := (E.2.1 4100)) kX13_useDeclarations_c3.2.2.2.2.2.2.2.1 ow_12_0_28 oa_12_0_28 ot_0 h (fun h => ?_)
    refine kz_iald (M := kt_M591) (c := 12) (o := 0) (k := 28) (a := (E.2.1 4100)) kX13_useDeclarations_c4.1 ow_12_0_28 oa_12_0_28 ot_0 h (fun h => ?_)
    refine kz_if_lt (M := kt_M591) kX13_useDeclarations_c4.2.1 (t := 79) rfl h (fun h => ?_) (fun h => ?_)
    · skip
      exact kz_weak [(0, .ref (w_adr E.2.1 12 0)), (2, .int x2)] ⟨rfl, ⟨rfl, trivial⟩⟩ rfl (zt_X13_useDeclarations_p79 hL  h)
    · skip
      refine kz_aload_n (M := kt_M591) kX13_useDeclarations_c4.2.2.1 rfl ?_
      refine kz_aload_n (M := kt_M591) kX13_useDeclarations_c4.2.2.2.1 rfl ?_
      refine kz_gfc (M := kt_M591) (x := 4100) (c := 12) (o := 0) kX13_useDeclarations_c4.2.2.2.2.1 wf_X13_193 (.inl rfl) ?_
      refine kz_aload_n (M := kt_M591) kX13_useDeclarations_c4.2.2.2.2.2.1 rfl ?_
      refine kz_gfc (M := kt_M591) (x := 4100) (c := 12) (o := 0) kX13_useDeclarations_c4.2.2.2.2.2.2.1 wf_X13_193 (.inl rfl) ?_
      refine kz_iload_n (M := kt_M591) kX13_useDeclarations_c4.2.2.2.2.2.2.2.1 rfl ?_
      refine kz_iald (M := kt_M591) (c := 12) (o := 0) (k := 28) (a := (E.2.1 4100)) kX13_useDeclarations_c5.1 ow_12_0_28 oa_12_0_28 ot_0 h (fun h => ?_)
      refine kz_iald (M := kt_M591) (c := 12) (o := 0) (k := 28) (a := (E.2.1 4100)) kX13_useDeclarations_c5.2.1 ow_12_0_28 oa_12_0_28 ot_0 h (fun h => ?_)
      refine kz_aload_n (M := kt_M591) kX13_useDeclarations_c5.2.2.1 rfl ?_
      refine kz_gfc (M := kt_M591) (x := 4099) (c := 12) (o := 0) kX13_useDeclarations_c5.2.2.2.1 wf_X13_190 (.inl rfl) ?_
      refine kz_iload_n (M := kt_M591) kX13_useDeclarations_c5.2.2.2.2.1 rfl ?_
      refine kz_iald (M := kt_M591) (c := 12) (o := 0) (k := 27) (a := (E.2.1 4099)) kX13_useDeclarations_c5.2.2.2.2.2.1 ow_12_0_27 oa_12_0_27 ot_0 h (fun h => ?_)
      refine kz_cv0 (M := kt_M591) (c := 12) (o := 0) (As := [.int (w_a w 12 0 28 (w_a w 12 0 28 (x2).toNatClampNeg).toNatClampNeg), .int (w_a w 12 0 27 (x2).toNatClampNeg)]) (rest := []) kX13_useDeclarations_c5.2.2.2.2.2.2.1 wl_X13_1034 wMv_592 rfl (.inl rfl) rfl (Nat.le_trans (Nat.le_of_ble_eq_true rfl) hL) (Nat.le_of_ble_eq_true rfl) (Nat.le_of_ble_eq_true rfl) h (fun w1 hle h => ?_) (fun _ _ _ h => kzx_no rfl h)
      have h := h hle
      exact kz_weak [(0, .ref (w_adr E.2.1 12 0)), (2, .int x2)] ⟨rfl, ⟨rfl, trivial⟩⟩ rfl (zt_X13_useDeclarations_p79 hL  h)
def zb_X13_useDeclarations_p2 (E : zE) (L : Nat) (Q : kx_Rs → wS → Prop) (x2 : Int32) (w : wS) : Prop := (if x2 < 0 then Q (.inl none) w else (kx_inb x2 (w_n w 12 0 26) = true ∧ (if ¬ w_a w 12 0 26 (x2).toNatClampNeg = 33 then zb_X13_useDeclarations_p33 E L Q x2 w else (kx_inb x2 (w_n w 12 0 28) = true ∧ (kx_inb x2 (w_n w 12 0 27) = true ∧ zw E (L - 23) kt_M592 [.ref (w_adr E.2.1 12 0), .int (w_a w 12 0 28 (x2).toNatClampNeg), .int (w_a w 12 0 27 (x2).toNatClampNeg)] w (wk0 (fun w1 => wle w w1 → zb_X13_useDeclarations_p33 E L Q x2 w1) (fun e w => Q (.inr e) w)))))))
theorem zt_X13_useDeclarations_p2 {E : zE} {L : Nat} {Q : kx_Rs → wS → Prop} {x2 : Int32} {w : wS} (hL : 23 ≤ L) (h : zb_X13_useDeclarations_p2 E L Q x2 w) : kzE E L kt_M591 2 [(0, .ref (w_adr E.2.1 12 0)), (2, .int x2)] [] w Q := by
  unfold zb_X13_useDeclarations_p2 at h
  refine kz_iload_n (M := kt_M591) kX13_useDeclarations_c0.2.2.1 rfl ?_
  refine kz_if_lt (M := kt_M591) kX13_useDeclarations_c0.2.2.2.1 (t := 89) rfl h (fun h => ?_) (fun h => ?_)
  · skip
    exact kz_ret (M := kt_M591) kX13_useDeclarations_c6.2.2.2.2.2.1 rfl h
  · skip
    refine kz_aload_n (M := kt_M591) kX13_useDeclarations_c0.2.2.2.2.1 rfl ?_
    refine kz_gfc (M := kt_M591) (x := 4098) (c := 12) (o := 0) kX13_useDeclarations_c0.2.2.2.2.2.1 wf_X13_187 (.inl rfl) ?_
    refine kz_iload_n (M := kt_M591) kX13_useDeclarations_c0.2.2.2.2.2.2.1 rfl ?_
    refine kz_iald (M := kt_M591) (c := 12) (o := 0) (k := 26) (a := (E.2.1 4098)) kX13_useDeclarations_c0.2.2.2.2.2.2.2.1 ow_12_0_26 oa_12_0_26 ot_0 h (fun h => ?_)
    refine kz_bi (M := kt_M591) 33 kX13_useDeclarations_c1.1 rfl ?_
    refine kz_icmp_ne (M := kt_M591) kX13_useDeclarations_c1.2.1 (t := 33) rfl h (fun h => ?_) (fun h => ?_)
    · skip
      exact kz_weak [(0, .ref (w_adr E.2.1 12 0)), (2, .int x2)] ⟨rfl, ⟨rfl, trivial⟩⟩ rfl (zt_X13_useDeclarations_p33 hL  h)
    · skip
      refine kz_aload_n (M := kt_M591) kX13_useDeclarations_c1.2.2.1 rfl ?_
      refine kz_aload_n (M := kt_M591) kX13_useDeclarations_c1.2.2.2.1 rfl ?_
      refine kz_gfc (M := kt_M591) (x := 4100) (c := 12) (o := 0) kX13_useDeclarations_c1.2.2.2.2.1 wf_X13_193 (.inl rfl) ?_
      refine kz_iload_n (M := kt_M591) kX13_useDeclarations_c1.2.2.2.2.2.1 rfl ?_
      refine kz_iald (M := kt_M591) (c := 12) (o := 0) (k := 28) (a := (E.2.1 4100)) kX13_useDeclarations_c1.2.2.2.2.2.2.1 ow_12_0_28 oa_12_0_28 ot_0 h (fun h => ?_)
      refine kz_aload_n (M := kt_M591) kX13_useDeclarations_c1.2.2.2.2.2.2.2.1 rfl ?_
      refine kz_gfc (M := kt_M591) (x := 4099) (c := 12) (o := 0) kX13_useDeclarations_c2.1 wf_X13_190 (.inl rfl) ?_
      refine kz_iload_n (M := kt_M591) kX13_useDeclarations_c2.2.1 rfl ?_
      refine kz_iald (M := kt_M591) (c := 12) (o := 0) (k := 27) (a := (E.2.1 4099)) kX13_useDeclarations_c2.2.2.1 ow_12_0_27 oa_12_0_27 ot_0 h (fun h => ?_)
      refine kz_cv0 (M := kt_M591) (c := 12) (o := 0) (As := [.int (w_a w 12 0 28 (x2).toNatClampNeg), .int (w_a w 12 0 27 (x2).toNatClampNeg)]) (rest := []) kX13_useDeclarations_c2.2.2.2.1 wl_X13_1034 wMv_592 rfl (.inl rfl) rfl (Nat.le_trans (Nat.le_of_ble_eq_true rfl) hL) (Nat.le_of_ble_eq_true rfl) (Nat.le_of_ble_eq_true rfl) h (fun w1 hle h => ?_) (fun _ _ _ h => kzx_no rfl h)
      have h := h hle
      exact kz_weak [(0, .ref (w_adr E.2.1 12 0)), (2, .int x2)] ⟨rfl, ⟨rfl, trivial⟩⟩ rfl (zt_X13_useDeclarations_p33 hL  h)
def zb_X13_useDeclarations_p0 (E : zE) (L : Nat) (Q : kx_Rs → wS → Prop) (x1 : Int32) (w : wS) : Prop := zL_X13_useDeclarations_p2 E L Q x1 w
theorem zt_X13_useDeclarations_p0 {E : zE} {L : Nat} {Q : kx_Rs → wS → Prop} {x1 : Int32} {w : wS} (hL : 23 ≤ L) (h : zb_X13_useDeclarations_p0 E L Q x1 w) : kzE E L kt_M591 0 [(0, .ref (w_adr E.2.1 12 0)), (1, .int x1)] [] w Q := by
  unfold zb_X13_useDeclarations_p0 at h
  refine kz_iload_n (M := kt_M591) kX13_useDeclarations_c0.1 rfl ?_
  refine kz_sti_n (M := kt_M591) [(0, .ref (w_adr E.2.1 12 0))] kX13_useDeclarations_c0.2.1 (Nat.le_of_ble_eq_true rfl) ⟨⟨rfl, rfl, .inl rfl⟩, trivial⟩ rfl ?_
  exact kz_weak [(0, .ref (w_adr E.2.1 12 0)), (2, .int x1)] ⟨rfl, ⟨rfl, trivial⟩⟩ rfl h
def zL_X13_useE_p145 (E : zE) (L : Nat) (Q : kx_Rs → wS → Prop) (x1 : Int32) (x2 : Int32) (x3 : Int32) (w : wS) : Prop := kzE E L kt_M592 145 [(0, .ref (w_adr E.2.1 12 0)), (1, .int x1), (2, .int x2), (3, .int x3)] [] w Q
def zL_X13_useE_p117 (E : zE) (L : Nat) (Q : kx_Rs → wS → Prop) (x2 : Int32) (x3 : Int32) (w : wS) : Prop := kzE E L kt_M592 117 [(0, .ref (w_adr E.2.1 12 0)), (2, .int x2), (3, .int x3)] [] w Q
def zb_X13_useE_p227 (E : zE) (L : Nat) (Q : kx_Rs → wS → Prop) (w : wS) : Prop := Q (.inl none) w
theorem zt_X13_useE_p227 {E : zE} {L : Nat} {Q : kx_Rs → wS → Prop} {w : wS} (hL : 23 ≤ L) (h : zb_X13_useE_p227 E L Q  w) : kzE E L kt_M592 227 [(0, .ref (w_adr E.2.1 12 0))] [] w Q := by
  unfold zb_X13_useE_p227 at h
  exact kz_ret (M := kt_M592) kX13_useE_c14.2.2.2.1 rfl h
def zb_X13_useE_p145 (E : zE) (L : Nat) (Q : kx_Rs → wS → Prop) (x1 : Int32) (x2 : Int32) (x3 : Int32) (w : wS) : Prop := (if x3 < 0 then (kx_inb x1 (w_n w 12 0 31) = true ∧ (kx_inb (w_a w 12 0 31 (x1).toNatClampNeg) (w_n w 12 0 49) = true ∧ zw E (L - 23) kt_M593 [.ref (w_adr E.2.1 12 0), .int (w_a w 12 0 49 (w_a w 12 0 31 (x1).toNatClampNeg).toNatClampNeg), .int x2] w (wk0 (fun w1 => wle w w1 → Q (.inl none) w1) (fun e w => Q (.inr e) w)))) else zw E (L - 23) kt_M592 [.ref (w_adr E.2.1 12 0), .int x3, .int x2] w (wk0 (fun w3 => wle w w3 → (kx_inb x3 (w_n w3 12 0 32) = true ∧ zL_X13_useE_p145 E L Q x1 x2 (w_a w3 12 0 32 (x3).toNatClampNeg) w3)) (fun e w => Q (.inr e) w)))
theorem zt_X13_useE_p145 {E : zE} {L : Nat} {Q : kx_Rs → wS → Prop} {x1 : Int32} {x2 : Int32} {x3 : Int32} {w : wS} (hL : 23 ≤ L) (h : zb_X13_useE_p145 E L Q x1 x2 x3 w) : kzE E L kt_M592 145 [(0, .ref (w_adr E.2.1 12 0)), (1, .int x1), (2, .int x2), (3, .int x3)] [] w Q := by
  unfold zb_X13_useE_p145 at h
  refine kz_iload_n (M := kt_M592) kX13_useE_c8.2.1 rfl ?_
  refine kz_if_lt (M := kt_M592) kX13_useE_c8.2.2.1 (t := 165) rfl h (fun h => ?_) (fun h => ?_)
  · skip
    refine kz_aload_n (M := kt_M592) kX13_useE_c9.2.2.2.2.2.1 rfl ?_
    refine kz_aload_n (M := kt_M592) kX13_useE_c9.2.2.2.2.2.2.1 rfl ?_
    refine kz_gfc (M := kt_M592) (x := 4121) (c := 12) (o := 0) kX13_useE_c9.2.2.2.2.2.2.2.1 wf_X13_232 (.inl rfl) ?_
    refine kz_aload_n (M := kt_M592) kX13_useE_c10.1 rfl ?_
    refine kz_gfc (M := kt_M592) (x := 4103) (c := 12) (o := 0) kX13_useE_c10.2.1 wf_X13_202 (.inl rfl) ?_
    refine kz_iload_n (M := kt_M592) kX13_useE_c10.2.2.1 rfl ?_
    refine kz_iald (M := kt_M592) (c := 12) (o := 0) (k := 31) (a := (E.2.1 4103)) kX13_useE_c10.2.2.2.1 ow_12_0_31 oa_12_0_31 ot_0 h (fun h => ?_)
    refine kz_iald (M := kt_M592) (c := 12) (o := 0) (k := 49) (a := (E.2.1 4121)) kX13_useE_c10.2.2.2.2.1 ow_12_0_49 oa_12_0_49 ot_0 h (fun h => ?_)
    refine kz_iload_n (M := kt_M592) kX13_useE_c10.2.2.2.2.2.1 rfl ?_
    refine kz_cv0 (M := kt_M592) (c := 12) (o := 0) (As := [.int (w_a w 12 0 49 (w_a w 12 0 31 (x1).toNatClampNeg).toNatClampNeg), .int x2]) (rest := []) kX13_useE_c10.2.2.2.2.2.2.1 wl_X13_1037 wMv_593 rfl (.inl rfl) rfl (Nat.le_trans (Nat.le_of_ble_eq_true rfl) hL) (Nat.le_of_ble_eq_true rfl) (Nat.le_of_ble_eq_true rfl) h (fun w1 hle h => ?_) (fun _ _ _ h => kzx_no rfl h)
    have h := h hle
    exact kz_ret (M := kt_M592) kX13_useE_c10.2.2.2.2.2.2.2.1 rfl h
  · skip
    refine kz_aload_n (M := kt_M592) kX13_useE_c8.2.2.2.1 rfl ?_
    refine kz_iload_n (M := kt_M592) kX13_useE_c8.2.2.2.2.1 rfl ?_
    refine kz_iload_n (M := kt_M592) kX13_useE_c8.2.2.2.2.2.1 rfl ?_
    refine kz_cv0 (M := kt_M592) (c := 12) (o := 0) (As := [.int x3, .int x2]) (rest := []) kX13_useE_c8.2.2.2.2.2.2.1 wl_X13_1034 wMv_592 rfl (.inl rfl) rfl (Nat.le_trans (Nat.le_of_ble_eq_true rfl) hL) (Nat.le_of_ble_eq_true rfl) (Nat.le_of_ble_eq_true rfl) h (fun w3 hle h => ?_) (fun _ _ _ h => kzx_no rfl h)
    have h := h hle
    refine kz_aload_n (M := kt_M592) kX13_useE_c8.2.2.2.2.2.2.2.1 rfl ?_
    refine kz_gfc (M := kt_M592) (x := 4104) (c := 12) (o := 0) kX13_useE_c9.1 wf_X13_205 (.inl rfl) ?_
    refine kz_iload_n (M := kt_M592) kX13_useE_c9.2.1 rfl ?_
    refine kz_iald (M := kt_M592) (c := 12) (o := 0) (k := 32) (a := (E.2.1 4104)) kX13_useE_c9.2.2.1 ow_12_0_32 oa_12_0_32 ot_0 h (fun h => ?_)
    refine kz_sti_n (M := kt_M592) [(0, .ref (w_adr E.2.1 12 0)), (1, .int x1), (2, .int x2)] kX13_useE_c9.2.2.2.1 (Nat.le_of_ble_eq_true rfl) ⟨⟨rfl, rfl, .inl rfl⟩, ⟨⟨rfl, rfl, .inl rfl⟩, ⟨⟨rfl, rfl, .inr rfl⟩, trivial⟩⟩⟩ rfl ?_
    refine kz_goto (M := kt_M592) kX13_useE_c9.2.2.2.2.1 (t := 145) rfl ?_
    exact kz_weak [(0, .ref (w_adr E.2.1 12 0)), (1, .int x1), (2, .int x2), (3, .int (w_a w3 12 0 32 (x3).toNatClampNeg))] ⟨rfl, ⟨rfl, ⟨rfl, ⟨rfl, trivial⟩⟩⟩⟩ rfl h
def zb_X13_useE_p117 (E : zE) (L : Nat) (Q : kx_Rs → wS → Prop) (x2 : Int32) (x3 : Int32) (w : wS) : Prop := (if x3 < 0 then Q (.inl none) w else zw E (L - 23) kt_M592 [.ref (w_adr E.2.1 12 0), .int x3, .int x2] w (wk0 (fun w1 => wle w w1 → (kx_inb x3 (w_n w1 12 0 32) = true ∧ zL_X13_useE_p117 E L Q x2 (w_a w1 12 0 32 (x3).toNatClampNeg) w1)) (fun e w => Q (.inr e) w)))
theorem zt_X13_useE_p117 {E : zE} {L : Nat} {Q : kx_Rs → wS → Prop} {x2 : Int32} {x3 : Int32} {w : wS} (hL : 23 ≤ L) (h : zb_X13_useE_p117 E L Q x2 x3 w) : kzE E L kt_M592 117 [(0, .ref (w_adr E.2.1 12 0)), (2, .int x2), (3, .int x3)] [] w Q := by
  unfold zb_X13_useE_p117 at h
  refine kz_iload_n (M := kt_M592) kX13_useE_c5.2.2.2.2.2.2.2.1 rfl ?_
  refine kz_if_lt (M := kt_M592) kX13_useE_c6.1 (t := 137) rfl h (fun h => ?_) (fun h => ?_)
  · skip
    exact kz_ret (M := kt_M592) kX13_useE_c7.2.2.2.1 rfl h
  · skip
    refine kz_aload_n (M := kt_M592) kX13_useE_c6.2.1 rfl ?_
    refine kz_iload_n (M := kt_M592) kX13_useE_c6.2.2.1 rfl ?_
    refine kz_iload_n (M := kt_M592) kX13_useE_c6.2.2.2.1 rfl ?_
    refine kz_cv0 (M := kt_M592) (c := 12) (o := 0) (As := [.int x3, .int x2]) (rest := []) kX13_useE_c6.2.2.2.2.1 wl_X13_1034 wMv_592 rfl (.inl rfl) rfl (Nat.le_trans (Nat.le_of_ble_eq_true rfl) hL) (Nat.le_of_ble_eq_true rfl) (Nat.le_of_ble_eq_true rfl) h (fun w1 hle h => ?_) (fun _ _ _ h => kzx_no rfl h)
    have h := h hle
    refine kz_aload_n (M := kt_M592) kX13_useE_c6.2.2.2.2.2.1 rfl ?_
    refine kz_gfc (M := kt_M592) (x := 4104) (c := 12) (o := 0) kX13_useE_c6.2.2.2.2.2.2.1 wf_X13_205 (.inl rfl) ?_
    refine kz_iload_n (M := kt_M592) kX13_useE_c6.2.2.2.2.2.2.2.1 rfl ?_
    refine kz_iald (M := kt_M592) (c := 12) (o := 0) (k := 32) (a := (E.2.1 4104)) kX13_useE_c7.1 ow_12_0_32 oa_12_0_32 ot_0 h (fun h => ?_)
    refine kz_sti_n (M := kt_M592) [(0, .ref (w_adr E.2.1 12 0)), (2, .int x2)] kX13_useE_c7.2.1 (Nat.le_of_ble_eq_true rfl) ⟨⟨rfl, rfl, .inl rfl⟩, ⟨⟨rfl, rfl, .inr rfl⟩, trivial⟩⟩ rfl ?_
    refine kz_goto (M := kt_M592) kX13_useE_c7.2.2.1 (t := 117) rfl ?_
    exact kz_weak [(0, .ref (w_adr E.2.1 12 0)), (2, .int x2), (3, .int (w_a w1 12 0 32 (x3).toNatClampNeg))] ⟨rfl, ⟨rfl, ⟨rfl, trivial⟩⟩⟩ rfl h
def zb_X13_useE_p74 (E : zE) (L : Nat) (Q : kx_Rs → wS → Prop) (w : wS) : Prop := Q (.inl none) w
theorem zt_X13_useE_p74 {E : zE} {L : Nat} {Q : kx_Rs → wS → Prop} {w : wS} (hL : 23 ≤ L) (h : zb_X13_useE_p74 E L Q  w) : kzE E L kt_M592 74 [(0, .ref (w_adr E.2.1 12 0))] [] w Q := by
  unfold zb_X13_useE_p74 at h
  exact kz_ret (M := kt_M592) kX13_useE_c2.2.2.1 rfl h
def zb_X13_useE_p0 (E : zE) (L : Nat) (Q : kx_Rs → wS → Prop) (x1 : Int32) (x2 : Int32) (w : wS) : Prop := (kx_inb x1 (w_n w 12 0 26) = true ∧ (if w_a w 12 0 26 (x1).toNatClampNeg = 57 then (kx_inb x1 (w_n w 12 0 28) = true ∧ zw E (L - 23) kt_M592 [.ref (w_adr E.2.1 12 0), .int (w_a w 12 0 28 (x1).toNatClampNeg), .int x2] w (wk0 (fun w1 => wle w w1 → Q (.inl none) w1) (fun e w => Q (.inr e) w))) else (if w_a w 12 0 26 (x1).toNatClampNeg = 58 then (kx_inb x1 (w_n w 12 0 28) = true ∧ zw E (L - 23) kt_M592 [.ref (w_adr E.2.1 12 0), .int (w_a w 12 0 28 (x1).toNatClampNeg), .int x2] w (wk0 (fun w3 => wle w w3 → Q (.inl none) w3) (fun e w => Q (.inr e) w))) else (if w_a w 12 0 26 (x1).toNatClampNeg = 59 then (kx_inb x1 (w_n w 12 0 28) = true ∧ zL_X13_useE_p117 E L Q x2 (w_a w 12 0 28 (x1).toNatClampNeg) w) else (if w_a w 12 0 26 (x1).toNatClampNeg = 60 then (kx_inb x1 (w_n w 12 0 31) = true ∧ (kx_inb (w_a w 12 0 31 (x1).toNatClampNeg) (w_n w 12 0 46) = true ∧ (if ¬ w_a w 12 0 46 (w_a w 12 0 31 (x1).toNatClampNeg).toNatClampNeg = 1 then (kx_inb x1 (w_n w 12 0 28) = true ∧ (if w_a w 12 0 28 (x1).toNatClampNeg < 0 then zb_X13_useE_p227 E L Q w else (kx_inb x1 (w_n w 12 0 28) = true ∧ zw E (L - 23) kt_M592 [.ref (w_adr E.2.1 12 0), .int (w_a w 12 0 28 (x1).toNatClampNeg), .int x2] w (wk0 (fun w5 => wle w w5 → zb_X13_useE_p227 E L Q w5) (fun e w => Q (.inr e) w))))) else zw E (L - 23) kt_M388 [.ref (w_adr E.2.1 12 0), .int x1, .int 1, .int x2] w (wk0 (fun w7 => wle w w7 → zb_X13_useE_p227 E L Q w7) (fun e w => Q (.inr e) w))))) else (if w_a w 12 0 26 (x1).toNatClampNeg = 61 then (kx_inb x1 (w_n w 12 0 28) = true ∧ zL_X13_useE_p145 E L Q x1 x2 (w_a w 12 0 28 (x1).toNatClampNeg) w) else (if w_a w 12 0 26 (x1).toNatClampNeg = 62 then (kx_inb x1 (w_n w 12 0 29) = true ∧ (if w_a w 12 0 29 (x1).toNatClampNeg = 27 then zb_X13_useE_p74 E L Q w else (kx_inb x1 (w_n w 12 0 28) = true ∧ zw E (L - 23) kt_M592 [.ref (w_adr E.2.1 12 0), .int (w_a w 12 0 28 (x1).toNatClampNeg), .int x2] w (wk0 (fun w9 => wle w w9 → zb_X13_useE_p74 E L Q w9) (fun e w => Q (.inr e) w))))) else (if w_a w 12 0 26 (x1).toNatClampNeg = 63 then (kx_inb x1 (w_n w 12 0 28) = true ∧ zw E (L - 23) kt_M592 [.ref (w_adr E.2.1 12 0), .int (w_a w 12 0 28 (x1).toNatClampNeg), .int x2] w (wk0 (fun w11 => wle w w11 → (kx_inb x1 (w_n w11 12 0 30) = true ∧ zw E (L - 23) kt_M592 [.ref (w_adr E.2.1 12 0), .int (w_a w11 12 0 30 (x1).toNatClampNeg), .int x2] w11 (wk0 (fun w13 => wle w11 w13 → Q (.inl none) w13) (fun e w => Q (.inr e) w)))) (fun e w => Q (.inr e) w))) else (if w_a w 12 0 26 (x1).toNatClampNeg = 64 then (kx_inb x1 (w_n w 12 0 28) = true ∧ zL_X13_useE_p117 E L Q x2 (w_a w 12 0 28 (x1).toNatClampNeg) w) else Q (.inl none) w)))))))))
theorem zt_X13_useE_p0 {E : zE} {L : Nat} {Q : kx_Rs → wS → Prop} {x1 : Int32} {x2 : Int32} {w : wS} (hL : 23 ≤ L) (h : zb_X13_useE_p0 E L Q x1 x2 w) : kzE E L kt_M592 0 [(0, .ref (w_adr E.2.1 12 0)), (1, .int x1), (2, .int x2)] [] w Q := by
  unfold zb_X13_useE_p0 at h
  refine kz_aload_n (M := kt_M592) kX13_useE_c0.1 rfl ?_
  refine kz_gfc (M := kt_M592) (x := 4098) (c := 12) (o := 0) kX13_useE_c0.2.1 wf_X13_187 (.inl rfl) ?_
  refine kz_iload_n (M := kt_M592) kX13_useE_c0.2.2.1 rfl ?_
  refine kz_iald (M := kt_M592) (c := 12) (o := 0) (k := 26) (a := (E.2.1 4098)) kX13_useE_c0.2.2.2.1 ow_12_0_26 oa_12_0_26 ot_0 h (fun h => ?_)
  refine kz_tsw (M := kt_M592) [(57, 75), (58, 75), (59, 110), (60, 182), (61, 138), (62, 52), (63, 87), (64, 110)] [_, _, _, _, _, _, _, _] 228 dX13_useE_p6 (by decide +kernel) h ⟨fun h => ?_, fun h => ?_, fun h => ?_, fun h => ?_, fun h => ?_, fun h => ?_, fun h => ?_, fun h => ?_, trivial⟩ (fun h => ?_)
  · skip
    refine kz_aload_n (M := kt_M592) kX13_useE_c2.2.2.2.1 rfl ?_
    refine kz_aload_n (M := kt_M592) kX13_useE_c2.2.2.2.2.1 rfl ?_
    refine kz_gfc (M := kt_M592) (x := 4100) (c := 12) (o := 0) kX13_useE_c2.2.2.2.2.2.1 wf_X13_193 (.inl rfl) ?_
    refine kz_iload_n (M := kt_M592) kX13_useE_c2.2.2.2.2.2.2.1 rfl ?_
    refine kz_iald (M := kt_M592) (c := 12) (o := 0) (k := 28) (a := (E.2.1 4100)) kX13_useE_c2.2.2.2.2.2.2.2.1 ow_12_0_28 oa_12_0_28 ot_0 h (fun h => ?_)
    refine kz_iload_n (M := kt_M592) kX13_useE_c3.1 rfl ?_
    refine kz_cv0 (M := kt_M592) (c := 12) (o := 0) (As := [.int (w_a w 12 0 28 (x1).toNatClampNeg), .int x2]) (rest := []) kX13_useE_c3.2.1 wl_X13_1034 wMv_592 rfl (.inl rfl) rfl (Nat.le_trans (Nat.le_of_ble_eq_true rfl) hL) (Nat.le_of_ble_eq_true rfl) (Nat.le_of_ble_eq_true rfl) h (fun w1 hle h => ?_) (fun _ _ _ h => kzx_no rfl h)
    have h := h hle
    exact kz_ret (M := kt_M592) kX13_useE_c3.2.2.1 rfl h
  · skip
    refine kz_aload_n (M := kt_M592) kX13_useE_c2.2.2.2.1 rfl ?_
    refine kz_aload_n (M := kt_M592) kX13_useE_c2.2.2.2.2.1 rfl ?_
    refine kz_gfc (M := kt_M592) (x := 4100) (c := 12) (o := 0) kX13_useE_c2.2.2.2.2.2.1 wf_X13_193 (.inl rfl) ?_
    refine kz_iload_n (M := kt_M592) kX13_useE_c2.2.2.2.2.2.2.1 rfl ?_
    refine kz_iald (M := kt_M592) (c := 12) (o := 0) (k := 28) (a := (E.2.1 4100)) kX13_useE_c2.2.2.2.2.2.2.2.1 ow_12_0_28 oa_12_0_28 ot_0 h (fun h => ?_)
    refine kz_iload_n (M := kt_M592) kX13_useE_c3.1 rfl ?_
    refine kz_cv0 (M := kt_M592) (c := 12) (o := 0) (As := [.int (w_a w 12 0 28 (x1).toNatClampNeg), .int x2]) (rest := []) kX13_useE_c3.2.1 wl_X13_1034 wMv_592 rfl (.inl rfl) rfl (Nat.le_trans (Nat.le_of_ble_eq_true rfl) hL) (Nat.le_of_ble_eq_true rfl) (Nat.le_of_ble_eq_true rfl) h (fun w3 hle h => ?_) (fun _ _ _ h => kzx_no rfl h)
    have h := h hle
    exact kz_ret (M := kt_M592) kX13_useE_c3.2.2.1 rfl h
  · skip
    refine kz_aload_n (M := kt_M592) kX13_useE_c5.2.2.1 rfl ?_
    refine kz_gfc (M := kt_M592) (x := 4100) (c := 12) (o := 0) kX13_useE_c5.2.2.2.1 wf_X13_193 (.inl rfl) ?_
    refine kz_iload_n (M := kt_M592) kX13_useE_c5.2.2.2.2.1 rfl ?_
    refine kz_iald (M := kt_M592) (c := 12) (o := 0) (k := 28) (a := (E.2.1 4100)) kX13_useE_c5.2.2.2.2.2.1 ow_12_0_28 oa_12_0_28 ot_0 h (fun h => ?_)
    refine kz_sti_n (M := kt_M592) [(0, .ref (w_adr E.2.1 12 0)), (2, .int x2)] kX13_useE_c5.2.2.2.2.2.2.1 (Nat.le_of_ble_eq_true rfl) ⟨⟨rfl, rfl, .inl rfl⟩, ⟨⟨rfl, rfl, .inr rfl⟩, trivial⟩⟩ rfl ?_
    exact kz_weak [(0, .ref (w_adr E.2.1 12 0)), (2, .int x2), (3, .int (w_a w 12 0 28 (x1).toNatClampNeg))] ⟨rfl, ⟨rfl, ⟨rfl, trivial⟩⟩⟩ rfl h
  · skip
    refine kz_aload_n (M := kt_M592) kX13_useE_c11.1 rfl ?_
    refine kz_gfc (M := kt_M592) (x := 4118) (c := 12) (o := 0) kX13_useE_c11.2.1 wf_X13_223 (.inl rfl) ?_
    refine kz_aload_n (M := kt_M592) kX13_useE_c11.2.2.1 rfl ?_
    refine kz_gfc (M := kt_M592) (x := 4103) (c := 12) (o := 0) kX13_useE_c11.2.2.2.1 wf_X13_202 (.inl rfl) ?_
    refine kz_iload_n (M := kt_M592) kX13_useE_c11.2.2.2.2.1 rfl ?_
    refine kz_iald (M := kt_M592) (c := 12) (o := 0) (k := 31) (a := (E.2.1 4103)) kX13_useE_c11.2.2.2.2.2.1 ow_12_0_31 oa_12_0_31 ot_0 h (fun h => ?_)
    refine kz_iald (M := kt_M592) (c := 12) (o := 0) (k := 46) (a := (E.2.1 4118)) kX13_useE_c11.2.2.2.2.2.2.1 ow_12_0_46 oa_12_0_46 ot_0 h (fun h => ?_)
    refine kz_ic (M := kt_M592) 1 kX13_useE_c11.2.2.2.2.2.2.2.1 rfl ?_
    refine kz_icmp_ne (M := kt_M592) kX13_useE_c12.1 (t := 207) rfl h (fun h => ?_) (fun h => ?_)
    · skip
      refine kz_aload_n (M := kt_M592) kX13_useE_c12.2.2.2.2.2.2.2.1 rfl ?_
      refine kz_gfc (M := kt_M592) (x := 4100) (c := 12) (o := 0) kX13_useE_c13.1 wf_X13_193 (.inl rfl) ?_
      refine kz_iload_n (M := kt_M592) kX13_useE_c13.2.1 rfl ?_
      refine kz_iald (M := kt_M592) (c := 12) (o := 0) (k := 28) (a := (E.2.1 4100)) kX13_useE_c13.2.2.1 ow_12_0_28 oa_12_0_28 ot_0 h (fun h => ?_)
      refine kz_if_lt (M := kt_M592) kX13_useE_c13.2.2.2.1 (t := 227) rfl h (fun h => ?_) (fun h => ?_)
      · skip
        exact kz_weak [(0, .ref (w_adr E.2.1 12 0))] ⟨rfl, trivial⟩ rfl (zt_X13_useE_p227 hL  h)
      · skip
        refine kz_aload_n (M := kt_M592) kX13_useE_c13.2.2.2.2.1 rfl ?_
        refine kz_aload_n (M := kt_M592) kX13_useE_c13.2.2.2.2.2.1 rfl ?_
        refine kz_gfc (M := kt_M592) (x := 4100) (c := 12) (o := 0) kX13_useE_c13.2.2.2.2.2.2.1 wf_X13_193 (.inl rfl) ?_
        refine kz_iload_n (M := kt_M592) kX13_useE_c13.2.2.2.2.2.2.2.1 rfl ?_
        refine kz_iald (M := kt_M592) (c := 12) (o := 0) (k := 28) (a := (E.2.1 4100)) kX13_useE_c14.1 ow_12_0_28 oa_12_0_28 ot_0 h (fun h => ?_)
        refine kz_iload_n (M := kt_M592) kX13_useE_c14.2.1 rfl ?_
        refine kz_cv0 (M := kt_M592) (c := 12) (o := 0) (As := [.int (w_a w 12 0 28 (x1).toNatClampNeg), .int x2]) (rest := []) kX13_useE_c14.2.2.1 wl_X13_1034 wMv_592 rfl (.inl rfl) rfl (Nat.le_trans (Nat.le_of_ble_eq_true rfl) hL) (Nat.le_of_ble_eq_true rfl) (Nat.le_of_ble_eq_true rfl) h (fun w5 hle h => ?_) (fun _ _ _ h => kzx_no rfl h)
        have h := h hle
        exact kz_weak [(0, .ref (w_adr E.2.1 12 0))] ⟨rfl, trivial⟩ rfl (zt_X13_useE_p227 hL  h)
    · skip
      refine kz_aload_n (M := kt_M592) kX13_useE_c12.2.1 rfl ?_
      refine kz_iload_n (M := kt_M592) kX13_useE_c12.2.2.1 rfl ?_
      refine kz_ic (M := kt_M592) 1 kX13_useE_c12.2.2.2.1 rfl ?_
      refine kz_iload_n (M := kt_M592) kX13_useE_c12.2.2.2.2.1 rfl ?_
      refine kz_cv0 (M := kt_M592) (c := 12) (o := 0) (As := [.int x1, .int 1, .int x2]) (rest := []) kX13_useE_c12.2.2.2.2.2.1 wl_X13_1040 wMv_388 rfl (.inl rfl) rfl (Nat.le_trans (Nat.le_of_ble_eq_true rfl) hL) (Nat.le_of_ble_eq_true rfl) (Nat.le_of_ble_eq_true rfl) h (fun w7 hle h => ?_) (fun _ _ _ h => kzx_no rfl h)
      have h := h hle
      refine kz_goto (M := kt_M592) kX13_useE_c12.2.2.2.2.2.2.1 (t := 227) rfl ?_
      exact kz_weak [(0, .ref (w_adr E.2.1 12 0))] ⟨rfl, trivial⟩ rfl (zt_X13_useE_p227 hL  h)
  · skip
    refine kz_aload_n (M := kt_M592) kX13_useE_c7.2.2.2.2.1 rfl ?_
    refine kz_gfc (M := kt_M592) (x := 4100) (c := 12) (o := 0) kX13_useE_c7.2.2.2.2.2.1 wf_X13_193 (.inl rfl) ?_
    refine kz_iload_n (M := kt_M592) kX13_useE_c7.2.2.2.2.2.2.1 rfl ?_
    refine kz_iald (M := kt_M592) (c := 12) (o := 0) (k := 28) (a := (E.2.1 4100)) kX13_useE_c7.2.2.2.2.2.2.2.1 ow_12_0_28 oa_12_0_28 ot_0 h (fun h => ?_)
    refine kz_sti_n (M := kt_M592) [(0, .ref (w_adr E.2.1 12 0)), (1, .int x1), (2, .int x2)] kX13_useE_c8.1 (Nat.le_of_ble_eq_true rfl) ⟨⟨rfl, rfl, .inl rfl⟩, ⟨⟨rfl, rfl, .inl rfl⟩, ⟨⟨rfl, rfl, .inr rfl⟩, trivial⟩⟩⟩ rfl ?_
    exact kz_weak [(0, .ref (w_adr E.2.1 12 0)), (1, .int x1), (2, .int x2), (3, .int (w_a w 12 0 28 (x1).toNatClampNeg))] ⟨rfl, ⟨rfl, ⟨rfl, ⟨rfl, trivial⟩⟩⟩⟩ rfl h
  · skip
    refine kz_aload_n (M := kt_M592) kX13_useE_c0.2.2.2.2.2.1 rfl ?_
    refine kz_gfc (M := kt_M592) (x := 4101) (c := 12) (o := 0) kX13_useE_c0.2.2.2.2.2.2.1 wf_X13_196 (.inl rfl) ?_
    refine kz_iload_n (M := kt_M592) kX13_useE_c0.2.2.2.2.2.2.2.1 rfl ?_
    refine kz_iald (M := kt_M592) (c := 12) (o := 0) (k := 29) (a := (E.2.1 4101)) kX13_useE_c1.1 ow_12_0_29 oa_12_0_29 ot_0 h (fun h => ?_)
    refine kz_bi (M := kt_M592) 27 kX13_useE_c1.2.1 rfl ?_
    refine kz_icmp_eq (M := kt_M592) kX13_useE_c1.2.2.1 (t := 74) rfl h (fun h => ?_) (fun h => ?_)
    · skip
      exact kz_weak [(0, .ref (w_adr E.2.1 12 0))] ⟨rfl, trivial⟩ rfl (zt_X13_useE_p74 hL  h)
    · skip
      refine kz_aload_n (M := kt_M592) kX13_useE_c1.2.2.2.1 rfl ?_
      refine kz_aload_n (M := kt_M592) kX13_useE_c1.2.2.2.2.1 rfl ?_
      refine kz_gfc (M := kt_M592) (x := 4100) (c := 12) (o := 0) kX13_useE_c1.2.2.2.2.2.1 wf_X13_193 (.inl rfl) ?_
      refine kz_iload_n (M := kt_M592) kX13_useE_c1.2.2.2.2.2.2.1 rfl ?_
      refine kz_iald (M := kt_M592) (c := 12) (o := 0) (k := 28) (a := (E.2.1 4100)) kX13_useE_c1.2.2.2.2.2.2.2.1 ow_12_0_28 oa_12_0_28 ot_0 h (fun h => ?_)
      refine kz_iload_n (M := kt_M592) kX13_useE_c2.1 rfl ?_
      refine kz_cv0 (M := kt_M592) (c := 12) (o := 0) (As := [.int (w_a w 12 0 28 (x1).toNatClampNeg), .int x2]) (rest := []) kX13_useE_c2.2.1 wl_X13_1034 wMv_592 rfl (.inl rfl) rfl (Nat.le_trans (Nat.le_of_ble_eq_true rfl) hL) (Nat.le_of_ble_eq_true rfl) (Nat.le_of_ble_eq_true rfl) h (fun w9 hle h => ?_) (fun _ _ _ h => kzx_no rfl h)
      have h := h hle
      exact kz_weak [(0, .ref (w_adr E.2.1 12 0))] ⟨rfl, trivial⟩ rfl (zt_X13_useE_p74 hL  h)
  · skip
    refine kz_aload_n (M := kt_M592) kX13_useE_c3.2.2.2.1 rfl ?_
    refine kz_aload_n (M := kt_M592) kX13_useE_c3.2.2.2.2.1 rfl ?_
    refine kz_gfc (M := kt_M592) (x := 4100) (c := 12) (o := 0) kX13_useE_c3.2.2.2.2.2.1 wf_X13_193 (.inl rfl) ?_
    refine kz_iload_n (M := kt_M592) kX13_useE_c3.2.2.2.2.2.2.1 rfl ?_
    refine kz_iald (M := kt_M592) (c := 12) (o := 0) (k := 28) (a := (E.2.1 4100)) kX13_useE_c3.2.2.2.2.2.2.2.1 ow_12_0_28 oa_12_0_28 ot_0 h (fun h => ?_)
    refine kz_iload_n (M := kt_M592) kX13_useE_c4.1 rfl ?_
    refine kz_cv0 (M := kt_M592) (c := 12) (o := 0) (As := [.int (w_a w 12 0 28 (x1).toNatClampNeg), .int x2]) (rest := []) kX13_useE_c4.2.1 wl_X13_1034 wMv_592 rfl (.inl rfl) rfl (Nat.le_trans (Nat.le_of_ble_eq_true rfl) hL) (Nat.le_of_ble_eq_true rfl) (Nat.le_of_ble_eq_true rfl) h (fun w11 hle h => ?_) (fun _ _ _ h => kzx_no rfl h)
    have h := h hle
    refine kz_aload_n (M := kt_M592) kX13_useE_c4.2.2.1 rfl ?_
    refine kz_aload_n (M := kt_M592) kX13_useE_c4.2.2.2.1 rfl ?_
    refine kz_gfc (M := kt_M592) (x := 4102) (c := 12) (o := 0) kX13_useE_c4.2.2.2.2.1 wf_X13_199 (.inl rfl) ?_
    refine kz_iload_n (M := kt_M592) kX13_useE_c4.2.2.2.2.2.1 rfl ?_
    refine kz_iald (M := kt_M592) (c := 12) (o := 0) (k := 30) (a := (E.2.1 4102)) kX13_useE_c4.2.2.2.2.2.2.1 ow_12_0_30 oa_12_0_30 ot_0 h (fun h => ?_)
    refine kz_iload_n (M := kt_M592) kX13_useE_c4.2.2.2.2.2.2.2.1 rfl ?_
    refine kz_cv0 (M := kt_M592) (c := 12) (o := 0) (As := [.int (w_a w11 12 0 30 (x1).toNatClampNeg), .int x2]) (rest := []) kX13_useE_c5.1 wl_X13_1034 wMv_592 rfl (.inl rfl) rfl (Nat.le_trans (Nat.le_of_ble_eq_true rfl) hL) (Nat.le_of_ble_eq_true rfl) (Nat.le_of_ble_eq_true rfl) h (fun w13 hle h => ?_) (fun _ _ _ h => kzx_no rfl h)
    have h := h hle
    exact kz_ret (M := kt_M592) kX13_useE_c5.2.1 rfl h
  · skip
    refine kz_aload_n (M := kt_M592) kX13_useE_c5.2.2.1 rfl ?_
    refine kz_gfc (M := kt_M592) (x := 4100) (c := 12) (o := 0) kX13_useE_c5.2.2.2.1 wf_X13_193 (.inl rfl) ?_
    refine kz_iload_n (M := kt_M592) kX13_useE_c5.2.2.2.2.1 rfl ?_
    refine kz_iald (M := kt_M592) (c := 12) (o := 0) (k := 28) (a := (E.2.1 4100)) kX13_useE_c5.2.2.2.2.2.1 ow_12_0_28 oa_12_0_28 ot_0 h (fun h => ?_)
    refine kz_sti_n (M := kt_M592) [(0, .ref (w_adr E.2.1 12 0)), (2, .int x2)] kX13_useE_c5.2.2.2.2.2.2.1 (Nat.le_of_ble_eq_true rfl) ⟨⟨rfl, rfl, .inl rfl⟩, ⟨⟨rfl, rfl, .inr rfl⟩, trivial⟩⟩ rfl ?_
    exact kz_weak [(0, .ref (w_adr E.2.1 12 0)), (2, .int x2), (3, .int (w_a w 12 0 28 (x1).toNatClampNeg))] ⟨rfl, ⟨rfl, ⟨rfl, trivial⟩⟩⟩ rfl h
  · skip
    exact kz_ret (M := kt_M592) kX13_useE_c14.2.2.2.2.1 rfl h
def zL_X13_useUnit_p7 (E : zE) (L : Nat) (Q : kx_Rs → wS → Prop) (x1 : Int32) (x2 : Int32) (x3 : Int32) (w : wS) : Prop := kzE E L kt_M593 7 [(0, .ref (w_adr E.2.1 12 0)), (1, .int x1), (2, .int x2), (3, .int x3)] [] w Q
def zb_X13_useUnit_p61 (E : zE) (L : Nat) (Q : kx_Rs → wS → Prop) (x1 : Int32) (x2 : Int32) (x3 : Int32) (w : wS) : Prop := zL_X13_useUnit_p7 E L Q x1 x2 (x3 + 1) w
theorem zt_X13_useUnit_p61 {E : zE} {L : Nat} {Q : kx_Rs → wS → Prop} {x1 : Int32} {x2 : Int32} {x3 : Int32} {w : wS} (hL : 22 ≤ L) (h : zb_X13_useUnit_p61 E L Q x1 x2 x3 w) : kzE E L kt_M593 61 [(0, .ref (w_adr E.2.1 12 0)), (1, .int x1), (2, .int x2), (3, .int x3)] [] w Q := by
  unfold zb_X13_useUnit_p61 at h
  refine kz_inc (M := kt_M593) [(0, .ref (w_adr E.2.1 12 0)), (1, .int x1), (2, .int x2)] kX13_useUnit_c4.2.2.2.2.2.1 rfl (Nat.le_of_ble_eq_true rfl) ⟨⟨rfl, rfl, .inl rfl⟩, ⟨⟨rfl, rfl, .inl rfl⟩, ⟨⟨rfl, rfl, .inr rfl⟩, trivial⟩⟩⟩ rfl ?_
  refine kz_goto (M := kt_M593) kX13_useUnit_c4.2.2.2.2.2.2.1 (t := 7) rfl ?_
  exact kz_weak [(0, .ref (w_adr E.2.1 12 0)), (1, .int x1), (2, .int x2), (3, .int (x3 + 1))] ⟨rfl, ⟨rfl, ⟨rfl, ⟨rfl, trivial⟩⟩⟩⟩ rfl h
def zb_X13_useUnit_p7 (E : zE) (L : Nat) (Q : kx_Rs → wS → Prop) (x1 : Int32) (x2 : Int32) (x3 : Int32) (w : wS) : Prop := (kx_inb x1 (w_n w 12 0 84) = true ∧ (if w_a w 12 0 84 (x1).toNatClampNeg ≤ x3 then Q (.inl none) w else (kx_inb x3 (w_n w 12 0 81) = true ∧ (kx_inb x1 (w_n w 12 0 67) = true ∧ (if w_a w 12 0 81 (x3).toNatClampNeg < w_a w 12 0 67 (x1).toNatClampNeg then (kx_inb x3 (w_n w 12 0 81) = true ∧ (kx_inb x3 (w_n w 12 0 82) = true ∧ zw E (L - 22) kt_M387 [.ref (w_adr E.2.1 12 0), .int (w_a w 12 0 82 (x3).toNatClampNeg), .int x2] (ws_i (ws_i w 12 0 89 (w_a w 12 0 81 (x3).toNatClampNeg)) 12 0 90 (-1)) (wk0 (fun w1 => wle (ws_i (ws_i w 12 0 89 (w_a w 12 0 81 (x3).toNatClampNeg)) 12 0 90 (-1)) w1 → zb_X13_useUnit_p61 E L Q x1 x2 x3 w1) (fun e w => Q (.inr e) w)))) else zb_X13_useUnit_p61 E L Q x1 x2 x3 w)))))
theorem zt_X13_useUnit_p7 {E : zE} {L : Nat} {Q : kx_Rs → wS → Prop} {x1 : Int32} {x2 : Int32} {x3 : Int32} {w : wS} (hL : 22 ≤ L) (h : zb_X13_useUnit_p7 E L Q x1 x2 x3 w) : kzE E L kt_M593 7 [(0, .ref (w_adr E.2.1 12 0)), (1, .int x1), (2, .int x2), (3, .int x3)] [] w Q := by
  unfold zb_X13_useUnit_p7 at h
  refine kz_iload_n (M := kt_M593) kX13_useUnit_c0.2.2.2.2.2.1 rfl ?_
  refine kz_aload_n (M := kt_M593) kX13_useUnit_c0.2.2.2.2.2.2.1 rfl ?_
  refine kz_gfc (M := kt_M593) (x := 4156) (c := 12) (o := 0) kX13_useUnit_c0.2.2.2.2.2.2.2.1 wf_X13_304 (.inl rfl) ?_
  refine kz_iload_n (M := kt_M593) kX13_useUnit_c1.1 rfl ?_
  refine kz_iald (M := kt_M593) (c := 12) (o := 0) (k := 84) (a := (E.2.1 4156)) kX13_useUnit_c1.2.1 ow_12_0_84 oa_12_0_84 ot_0 h (fun h => ?_)
  refine kz_icmp_ge (M := kt_M593) kX13_useUnit_c1.2.2.1 (t := 67) rfl h (fun h => ?_) (fun h => ?_)
  · skip
    exact kz_ret (M := kt_M593) kX13_useUnit_c4.2.2.2.2.2.2.2.1 rfl h
  · skip
    refine kz_aload_n (M := kt_M593) kX13_useUnit_c1.2.2.2.1 rfl ?_
    refine kz_gfa (M := kt_M593) (c := 12) (o := 0) kX13_useUnit_c1.2.2.2.2.1 wf_X13_295 (.inl rfl) ?_
    refine kz_iload_n (M := kt_M593) kX13_useUnit_c1.2.2.2.2.2.1 rfl ?_
    refine kz_iald (M := kt_M593) (c := 12) (o := 0) (k := 81) (a := (w_d w 12 0 81)) kX13_useUnit_c1.2.2.2.2.2.2.1 ow_12_0_81 oa_12_0_81 ot_0 h (fun h => ?_)
    refine kz_aload_n (M := kt_M593) kX13_useUnit_c1.2.2.2.2.2.2.2.1 rfl ?_
    refine kz_gfc (M := kt_M593) (x := 4139) (c := 12) (o := 0) kX13_useUnit_c2.1 wf_X13_269 (.inl rfl) ?_
    refine kz_iload_n (M := kt_M593) kX13_useUnit_c2.2.1 rfl ?_
    refine kz_iald (M := kt_M593) (c := 12) (o := 0) (k := 67) (a := (E.2.1 4139)) kX13_useUnit_c2.2.2.1 ow_12_0_67 oa_12_0_67 ot_0 h (fun h => ?_)
    refine kz_icmp_lt (M := kt_M593) kX13_useUnit_c2.2.2.2.1 (t := 35) rfl h (fun h => ?_) (fun h => ?_)
    · skip
      refine kz_aload_n (M := kt_M593) kX13_useUnit_c2.2.2.2.2.2.1 rfl ?_
      refine kz_aload_n (M := kt_M593) kX13_useUnit_c2.2.2.2.2.2.2.1 rfl ?_
      refine kz_gfa (M := kt_M593) (c := 12) (o := 0) kX13_useUnit_c2.2.2.2.2.2.2.2.1 wf_X13_295 (.inl rfl) ?_
      refine kz_iload_n (M := kt_M593) kX13_useUnit_c3.1 rfl ?_
      refine kz_iald (M := kt_M593) (c := 12) (o := 0) (k := 81) (a := (w_d w 12 0 81)) kX13_useUnit_c3.2.1 ow_12_0_81 oa_12_0_81 ot_0 h (fun h => ?_)
      refine kz_pfi (M := kt_M593) (c := 12) (o := 0) kX13_useUnit_c3.2.2.1 wq_X13_974 (.inl rfl) ?_
      refine kz_aload_n (M := kt_M593) kX13_useUnit_c3.2.2.2.1 rfl ?_
      refine kz_ic (M := kt_M593) (-1) kX13_useUnit_c3.2.2.2.2.1 rfl ?_
      refine kz_pfi (M := kt_M593) (c := 12) (o := 0) kX13_useUnit_c3.2.2.2.2.2.1 wq_X13_977 (.inl rfl) ?_
      refine kz_aload_n (M := kt_M593) kX13_useUnit_c3.2.2.2.2.2.2.1 rfl ?_
      refine kz_aload_n (M := kt_M593) kX13_useUnit_c3.2.2.2.2.2.2.2.1 rfl ?_
      refine kz_gfa (M := kt_M593) (c := 12) (o := 0) kX13_useUnit_c4.1 wf_X13_298 (.inl rfl) ?_
      refine kz_iload_n (M := kt_M593) kX13_useUnit_c4.2.1 rfl ?_
      refine kz_ialdR (M := kt_M593) (n := w_n w 12 0 82) (c := 12) (o := 0) (k := 82) (a := (w_d (ws_i (ws_i w 12 0 89 (w_a w 12 0 81 (x3).toNatClampNeg)) 12 0 90 (-1)) 12 0 82)) (w_a w 12 0 82 (x3).toNatClampNeg) kX13_useUnit_c4.2.2.1 ow_12_0_82 oa_12_0_82 ot_0 (rd_n_i.trans rd_n_i) (rd_a_i.trans rd_a_i) h (fun h => ?_)
      refine kz_iload_n (M := kt_M593) kX13_useUnit_c4.2.2.2.1 rfl ?_
      refine kz_cv0 (M := kt_M593) (c := 12) (o := 0) (As := [.int (w_a w 12 0 82 (x3).toNatClampNeg), .int x2]) (rest := []) kX13_useUnit_c4.2.2.2.2.1 wl_X13_1031 wMv_387 rfl (.inl rfl) rfl (Nat.le_trans (Nat.le_of_ble_eq_true rfl) hL) (Nat.le_of_ble_eq_true rfl) (Nat.le_of_ble_eq_true rfl) h (fun w1 hle h => ?_) (fun _ _ _ h => kzx_no rfl h)
      have h := h hle
      exact kz_weak [(0, .ref (w_adr E.2.1 12 0)), (1, .int x1), (2, .int x2), (3, .int x3)] ⟨rfl, ⟨rfl, ⟨rfl, ⟨rfl, trivial⟩⟩⟩⟩ rfl (zt_X13_useUnit_p61 hL  h)
    · skip
      refine kz_goto (M := kt_M593) kX13_useUnit_c2.2.2.2.2.1 (t := 61) rfl ?_
      exact kz_weak [(0, .ref (w_adr E.2.1 12 0)), (1, .int x1), (2, .int x2), (3, .int x3)] ⟨rfl, ⟨rfl, ⟨rfl, ⟨rfl, trivial⟩⟩⟩⟩ rfl (zt_X13_useUnit_p61 hL  h)
def zb_X13_useUnit_p0 (E : zE) (L : Nat) (Q : kx_Rs → wS → Prop) (x1 : Int32) (x2 : Int32) (w : wS) : Prop := (kx_inb x1 (w_n w 12 0 83) = true ∧ zL_X13_useUnit_p7 E L Q x1 x2 (w_a w 12 0 83 (x1).toNatClampNeg) w)
theorem zt_X13_useUnit_p0 {E : zE} {L : Nat} {Q : kx_Rs → wS → Prop} {x1 : Int32} {x2 : Int32} {w : wS} (hL : 22 ≤ L) (h : zb_X13_useUnit_p0 E L Q x1 x2 w) : kzE E L kt_M593 0 [(0, .ref (w_adr E.2.1 12 0)), (1, .int x1), (2, .int x2)] [] w Q := by
  unfold zb_X13_useUnit_p0 at h
  refine kz_aload_n (M := kt_M593) kX13_useUnit_c0.1 rfl ?_
  refine kz_gfc (M := kt_M593) (x := 4155) (c := 12) (o := 0) kX13_useUnit_c0.2.1 wf_X13_301 (.inl rfl) ?_
  refine kz_iload_n (M := kt_M593) kX13_useUnit_c0.2.2.1 rfl ?_
  refine kz_iald (M := kt_M593) (c := 12) (o := 0) (k := 83) (a := (E.2.1 4155)) kX13_useUnit_c0.2.2.2.1 ow_12_0_83 oa_12_0_83 ot_0 h (fun h => ?_)
  refine kz_sti_n (M := kt_M593) [(0, .ref (w_adr E.2.1 12 0)), (1, .int x1), (2, .int x2)] kX13_useUnit_c0.2.2.2.2.1 (Nat.le_of_ble_eq_true rfl) ⟨⟨rfl, rfl, .inl rfl⟩, ⟨⟨rfl, rfl, .inl rfl⟩, ⟨⟨rfl, rfl, .inr rfl⟩, trivial⟩⟩⟩ rfl ?_
  exact kz_weak [(0, .ref (w_adr E.2.1 12 0)), (1, .int x1), (2, .int x2), (3, .int (w_a w 12 0 83 (x1).toNatClampNeg))] ⟨rfl, ⟨rfl, ⟨rfl, ⟨rfl, trivial⟩⟩⟩⟩ rfl h
def zb_X13_does_p67 (E : zE) (L : Nat) (Q : kx_Rs → wS → Prop) (w : wS) : Prop := Q (.inl none) w
theorem zt_X13_does_p67 {E : zE} {L : Nat} {Q : kx_Rs → wS → Prop} {w : wS} (hL : 25 ≤ L) (h : zb_X13_does_p67 E L Q  w) : kzE E L kt_M387 67 [(0, .ref (w_adr E.2.1 12 0))] [] w Q := by
  unfold zb_X13_does_p67 at h
  exact kz_ret (M := kt_M387) kX13_does_c4.2.1 rfl h
def zb_X13_does_p58 (E : zE) (L : Nat) (Q : kx_Rs → wS → Prop) (x1 : Int32) (w : wS) : Prop := zw E (L - 23) kt_M395 [.ref (w_adr E.2.1 12 0), .int (w_i w 12 0 89), .int x1] w (wk0 (fun w1 => wle w w1 → zb_X13_does_p67 E L Q w1) (fun e w => Q (.inr e) w))
theorem zt_X13_does_p58 {E : zE} {L : Nat} {Q : kx_Rs → wS → Prop} {x1 : Int32} {w : wS} (hL : 25 ≤ L) (h : zb_X13_does_p58 E L Q x1 w) : kzE E L kt_M387 58 [(0, .ref (w_adr E.2.1 12 0)), (1, .int x1)] [] w Q := by
  unfold zb_X13_does_p58 at h
  refine kz_aload_n (M := kt_M387) kX13_does_c3.2.2.2.2.1 rfl ?_
  refine kz_aload_n (M := kt_M387) kX13_does_c3.2.2.2.2.2.1 rfl ?_
  refine kz_gfi (M := kt_M387) (c := 12) (o := 0) kX13_does_c3.2.2.2.2.2.2.1 wf_X13_974 (.inl rfl) ?_
  refine kz_iload_n (M := kt_M387) kX13_does_c3.2.2.2.2.2.2.2.1 rfl ?_
  refine kz_cv0 (M := kt_M387) (c := 12) (o := 0) (As := [.int (w_i w 12 0 89), .int x1]) (rest := []) kX13_does_c4.1 wl_X13_1017 wMv_395 rfl (.inl rfl) rfl (Nat.le_trans (Nat.le_of_ble_eq_true rfl) hL) (Nat.le_of_ble_eq_true rfl) (Nat.le_of_ble_eq_true rfl) h (fun w1 hle h => ?_) (fun _ _ _ h => kzx_no rfl h)
  have h := h hle
  exact kz_weak [(0, .ref (w_adr E.2.1 12 0))] ⟨rfl, trivial⟩ rfl (zt_X13_does_p67 hL  h)
def zb_X13_does_p0 (E : zE) (L : Nat) (Q : kx_Rs → wS → Prop) (x1 : Int32) (x2 : Int32) (w : wS) : Prop := (if ¬ x1 = 0 then (if w_i w 12 0 86 < 0 then (if w_i w 12 0 89 < w_i w 12 0 87 then zw E (L - 25) kt_M399 [.ref (w_adr E.2.1 12 0), .int (w_i w 12 0 90), .int (w_i w 12 0 89)] w (wk0 (fun w1 => wle w w1 → zw E (L - 24) kt_M376 [.ref (w_adr E.2.1 12 0), .int x1, .int x2] w1 (wk0 (fun w3 => wle w1 w3 → zw E (L - 24) kt_M563 [.ref (w_adr E.2.1 12 0), .int x1] w3 (wk0 (fun w5 => wle w3 w5 → Q (.inl none) w5) (fun e w => Q (.inr e) w))) (fun e w => Q (.inr e) w))) (fun e w => Q (.inr e) w)) else Q (.inl none) w) else (if w_i w 12 0 89 < w_i w 12 0 87 then zb_X13_does_p58 E L Q x1 w else (kx_inb (w_i w 12 0 89) (w_n w 12 0 53) = true ∧ (if w_a w 12 0 53 (w_i w 12 0 89).toNatClampNeg = 0 then zb_X13_does_p67 E L Q w else (kx_inb (w_i w 12 0 89) (w_n w 12 0 49) = true ∧ (if w_a w 12 0 49 (w_i w 12 0 89).toNatClampNeg < 0 then zb_X13_does_p67 E L Q w else (if w_i w 12 0 99 ≤ w_i w 12 0 89 then zb_X13_does_p67 E L Q w else zb_X13_does_p58 E L Q x1 w))))))) else Q (.inl none) w)
theorem zt_X13_does_p0 {E : zE} {L : Nat} {Q : kx_Rs → wS → Prop} {x1 : Int32} {x2 : Int32} {w : wS} (hL : 25 ≤ L) (h : zb_X13_does_p0 E L Q x1 x2 w) : kzE E L kt_M387 0 [(0, .ref (w_adr E.2.1 12 0)), (1, .int x1), (2, .int x2)] [] w Q := by
  unfold zb_X13_does_p0 at h
  refine kz_iload_n (M := kt_M387) kX13_does_c0.1 rfl ?_
  refine kz_if_ne (M := kt_M387) kX13_does_c0.2.1 (t := 5) rfl h (fun h => ?_) (fun h => ?_)
  · skip
    refine kz_aload_n (M := kt_M387) kX13_does_c0.2.2.2.1 rfl ?_
    refine kz_gfi (M := kt_M387) (c := 12) (o := 0) kX13_does_c0.2.2.2.2.1 wf_X13_1001 (.inl rfl) ?_
    refine kz_if_lt (M := kt_M387) kX13_does_c0.2.2.2.2.2.1 (t := 68) rfl h (fun h => ?_) (fun h => ?_)
    · skip
      refine kz_aload_n (M := kt_M387) kX13_does_c4.2.2.1 rfl ?_
      refine kz_gfi (M := kt_M387) (c := 12) (o := 0) kX13_does_c4.2.2.2.1 wf_X13_974 (.inl rfl) ?_
      refine kz_aload_n (M := kt_M387) kX13_does_c4.2.2.2.2.1 rfl ?_
      refine kz_gfi (M := kt_M387) (c := 12) (o := 0) kX13_does_c4.2.2.2.2.2.1 wf_X13_1011 (.inl rfl) ?_
      refine kz_icmp_lt (M := kt_M387) kX13_does_c4.2.2.2.2.2.2.1 (t := 80) rfl h (fun h => ?_) (fun h => ?_)
      · skip
        refine kz_aload_n (M := kt_M387) kX13_does_c5.1 rfl ?_
        refine kz_aload_n (M := kt_M387) kX13_does_c5.2.1 rfl ?_
        refine kz_gfi (M := kt_M387) (c := 12) (o := 0) kX13_does_c5.2.2.1 wf_X13_977 (.inl rfl) ?_
        refine kz_aload_n (M := kt_M387) kX13_does_c5.2.2.2.1 rfl ?_
        refine kz_gfi (M := kt_M387) (c := 12) (o := 0) kX13_does_c5.2.2.2.2.1 wf_X13_974 (.inl rfl) ?_
        refine kz_cv0 (M := kt_M387) (c := 12) (o := 0) (As := [.int (w_i w 12 0 90), .int (w_i w 12 0 89)]) (rest := []) kX13_does_c5.2.2.2.2.2.1 wl_X13_1020 wMv_399 rfl (.inl rfl) rfl (Nat.le_trans (Nat.le_of_ble_eq_true rfl) hL) (Nat.le_of_ble_eq_true rfl) (Nat.le_of_ble_eq_true rfl) h (fun w1 hle h => ?_) (fun _ _ _ h => kzx_no rfl h)
        have h := h hle
        refine kz_aload_n (M := kt_M387) kX13_does_c5.2.2.2.2.2.2.1 rfl ?_
        refine kz_iload_n (M := kt_M387) kX13_does_c5.2.2.2.2.2.2.2.1 rfl ?_
        refine kz_iload_n (M := kt_M387) kX13_does_c6.1 rfl ?_
        refine kz_cv0 (M := kt_M387) (c := 12) (o := 0) (As := [.int x1, .int x2]) (rest := []) kX13_does_c6.2.1 wl_X13_1022 wMv_376 rfl (.inl rfl) rfl (Nat.le_trans (Nat.le_of_ble_eq_true rfl) hL) (Nat.le_of_ble_eq_true rfl) (Nat.le_of_ble_eq_true rfl) h (fun w3 hle h => ?_) (fun _ _ _ h => kzx_no rfl h)
        have h := h hle
        refine kz_aload_n (M := kt_M387) kX13_does_c6.2.2.1 rfl ?_
        refine kz_iload_n (M := kt_M387) kX13_does_c6.2.2.2.1 rfl ?_
        refine kz_cv0 (M := kt_M387) (c := 12) (o := 0) (As := [.int x1]) (rest := []) kX13_does_c6.2.2.2.2.1 wl_X13_1025 wMv_563 rfl (.inl rfl) rfl (Nat.le_trans (Nat.le_of_ble_eq_true rfl) hL) (Nat.le_of_ble_eq_true rfl) (Nat.le_of_ble_eq_true rfl) h (fun w5 hle h => ?_) (fun _ _ _ h => kzx_no rfl h)
        have h := h hle
        exact kz_ret (M := kt_M387) kX13_does_c6.2.2.2.2.2.1 rfl h
      · skip
        exact kz_ret (M := kt_M387) kX13_does_c4.2.2.2.2.2.2.2.1 rfl h
    · skip
      refine kz_aload_n (M := kt_M387) kX13_does_c0.2.2.2.2.2.2.1 rfl ?_
      refine kz_gfi (M := kt_M387) (c := 12) (o := 0) kX13_does_c0.2.2.2.2.2.2.2.1 wf_X13_974 (.inl rfl) ?_
      refine kz_aload_n (M := kt_M387) kX13_does_c1.1 rfl ?_
      refine kz_gfi (M := kt_M387) (c := 12) (o := 0) kX13_does_c1.2.1 wf_X13_1011 (.inl rfl) ?_
      refine kz_icmp_lt (M := kt_M387) kX13_does_c1.2.2.1 (t := 58) rfl h (fun h => ?_) (fun h => ?_)
      · skip
        exact kz_weak [(0, .ref (w_adr E.2.1 12 0)), (1, .int x1)] ⟨rfl, ⟨rfl, trivial⟩⟩ rfl (zt_X13_does_p58 hL  h)
      · skip
        refine kz_aload_n (M := kt_M387) kX13_does_c1.2.2.2.1 rfl ?_
        refine kz_gfc (M := kt_M387) (x := 4125) (c := 12) (o := 0) kX13_does_c1.2.2.2.2.1 wf_X13_244 (.inl rfl) ?_
        refine kz_aload_n (M := kt_M387) kX13_does_c1.2.2.2.2.2.1 rfl ?_
        refine kz_gfi (M := kt_M387) (c := 12) (o := 0) kX13_does_c1.2.2.2.2.2.2.1 wf_X13_974 (.inl rfl) ?_
        refine kz_zald (M := kt_M387) (c := 12) (o := 0) (k := 53) (a := (E.2.1 4125)) kX13_does_c1.2.2.2.2.2.2.2.1 ow_12_0_53 oa_12_0_53 ot_2 h (fun h => ?_)
        refine kz_if_eq (M := kt_M387) kX13_does_c2.1 (t := 67) rfl h (fun h => ?_) (fun h => ?_)
        · skip
          exact kz_weak [(0, .ref (w_adr E.2.1 12 0))] ⟨rfl, trivial⟩ rfl (zt_X13_does_p67 hL  h)
        · skip
          refine kz_aload_n (M := kt_M387) kX13_does_c2.2.1 rfl ?_
          refine kz_gfc (M := kt_M387) (x := 4121) (c := 12) (o := 0) kX13_does_c2.2.2.1 wf_X13_232 (.inl rfl) ?_
          refine kz_aload_n (M := kt_M387) kX13_does_c2.2.2.2.1 rfl ?_
          refine kz_gfi (M := kt_M387) (c := 12) (o := 0) kX13_does_c2.2.2.2.2.1 wf_X13_974 (.inl rfl) ?_
          refine kz_iald (M := kt_M387) (c := 12) (o := 0) (k := 49) (a := (E.2.1 4121)) kX13_does_c2.2.2.2.2.2.1 ow_12_0_49 oa_12_0_49 ot_0 h (fun h => ?_)
          refine kz_if_lt (M := kt_M387) kX13_does_c2.2.2.2.2.2.2.1 (t := 67) rfl h (fun h => ?_) (fun h => ?_)
          · skip
            exact kz_weak [(0, .ref (w_adr E.2.1 12 0))] ⟨rfl, trivial⟩ rfl (zt_X13_does_p67 hL  h)
          · skip
            refine kz_aload_n (M := kt_M387) kX13_does_c2.2.2.2.2.2.2.2.1 rfl ?_
            refine kz_gfi (M := kt_M387) (c := 12) (o := 0) kX13_does_c3.1 wf_X13_974 (.inl rfl) ?_
            refine kz_aload_n (M := kt_M387) kX13_does_c3.2.1 rfl ?_
            refine kz_gfi (M := kt_M387) (c := 12) (o := 0) kX13_does_c3.2.2.1 wf_X13_1014 (.inl rfl) ?_
            refine kz_icmp_ge (M := kt_M387) kX13_does_c3.2.2.2.1 (t := 67) rfl h (fun h => ?_) (fun h => ?_)
            · skip
              exact kz_weak [(0, .ref (w_adr E.2.1 12 0))] ⟨rfl, trivial⟩ rfl (zt_X13_does_p67 hL  h)
            · skip
              exact kz_weak [(0, .ref (w_adr E.2.1 12 0)), (1, .int x1)] ⟨rfl, ⟨rfl, trivial⟩⟩ rfl (zt_X13_does_p58 hL  h)
  · skip
    exact kz_ret (M := kt_M387) kX13_does_c0.2.2.1 rfl h
def zL_X13_elements_2_p350 (E : zE) (L : Nat) (Q : kx_Rs → wS → Prop) (x4 : Int32) (w : wS) : Prop := kzE E L kt_M399 350 [(0, .ref (w_adr E.2.1 12 0)), (4, .int x4)] [] w Q
def zL_X13_elements_2_p294 (E : zE) (L : Nat) (Q : kx_Rs → wS → Prop) (x1 : Int32) (x5 : Int32) (w : wS) : Prop := kzE E L kt_M399 294 [(0, .ref (w_adr E.2.1 12 0)), (1, .int x1), (5, .int x5)] [] w Q
def zL_X13_elements_2_p199 (E : zE) (L : Nat) (Q : kx_Rs → wS → Prop) (x1 : Int32) (x2 : Int32) (x4 : Int32) (w : wS) : Prop := kzE E L kt_M399 199 [(0, .ref (w_adr E.2.1 12 0)), (1, .int x1), (2, .int x2), (4, .int x4)] [] w Q
def zL_X13_elements_2_p137 (E : zE) (L : Nat) (Q : kx_Rs → wS → Prop) (x1 : Int32) (x2 : Int32) (x4 : Int32) (w : wS) : Prop := kzE E L kt_M399 137 [(0, .ref (w_adr E.2.1 12 0)), (1, .int x1), (2, .int x2), (4, .int x4)] [] w Q
def zL_X13_elements_2_p85 (E : zE) (L : Nat) (Q : kx_Rs → wS → Prop) (x1 : Int32) (x4 : Int32) (w : wS) : Prop := kzE E L kt_M399 85 [(0, .ref (w_adr E.2.1 12 0)), (1, .int x1), (4, .int x4)] [] w Q
def zL_X13_elements_2_p7 (E : zE) (L : Nat) (Q : kx_Rs → wS → Prop) (x1 : Int32) (x2 : Int32) (x3 : Int32) (w : wS) : Prop := kzE E L kt_M399 7 [(0, .ref (w_adr E.2.1 12 0)), (1, .int x1), (2, .int x2), (3, .int x3)] [] w Q
def zb_X13_elements_2_p350 (E : zE) (L : Nat) (Q : kx_Rs → wS → Prop) (x4 : Int32) (w : wS) : Prop := (if w_i w 12 0 93 ≤ x4 then Q (.inl none) w else (kx_inb x4 (w_n w 12 0 94) = true ∧ (kx_inb (w_a w 12 0 94 (x4).toNatClampNeg) (w_n w 12 0 71) = true ∧ zL_X13_elements_2_p350 E L Q (x4 + 1) (ws_a w 12 0 71 (w_a w 12 0 94 (x4).toNatClampNeg).toNatClampNeg (vp_nar .boolean 0)))))
theorem zt_X13_elements_2_p350 {E : zE} {L : Nat} {Q : kx_Rs → wS → Prop} {x4 : Int32} {w : wS} (hL : 23 ≤ L) (h : zb_X13_elements_2_p350 E L Q x4 w) : kzE E L kt_M399 350 [(0, .ref (w_adr E.2.1 12 0)), (4, .int x4)] [] w Q := by
  unfold zb_X13_elements_2_p350 at h
  refine kz_iload (M := kt_M399) kX13_elements_2_c24.2.1 rfl ?_
  refine kz_aload_n (M := kt_M399) kX13_elements_2_c24.2.2.1 rfl ?_
  refine kz_gfi (M := kt_M399) (c := 12) (o := 0) kX13_elements_2_c24.2.2.2.1 wf_X13_985 (.inl rfl) ?_
  refine kz_icmp_ge (M := kt_M399) kX13_elements_2_c24.2.2.2.2.1 (t := 378) rfl h (fun h => ?_) (fun h => ?_)
  · skip
    exact kz_ret (M := kt_M399) kX13_elements_2_c25.2.2.2.2.2.2.2.1 rfl h
  · skip
    refine kz_aload_n (M := kt_M399) kX13_elements_2_c24.2.2.2.2.2.1 rfl ?_
    refine kz_gfc (M := kt_M399) (x := 4143) (c := 12) (o := 0) kX13_elements_2_c24.2.2.2.2.2.2.1 wf_X13_281 (.inl rfl) ?_
    refine kz_aload_n (M := kt_M399) kX13_elements_2_c24.2.2.2.2.2.2.2.1 rfl ?_
    refine kz_gfc (M := kt_M399) (x := 4166) (c := 12) (o := 0) kX13_elements_2_c25.1 wf_X13_313 (.inl rfl) ?_
    refine kz_iload (M := kt_M399) kX13_elements_2_c25.2.1 rfl ?_
    refine kz_iald (M := kt_M399) (c := 12) (o := 0) (k := 94) (a := (E.2.1 4166)) kX13_elements_2_c25.2.2.1 ow_12_0_94 oa_12_0_94 ot_0 h (fun h => ?_)
    refine kz_ic (M := kt_M399) 0 kX13_elements_2_c25.2.2.2.1 rfl ?_
    refine kz_zast (M := kt_M399) (c := 12) (o := 0) (k := 71) (a := (E.2.1 4143)) kX13_elements_2_c25.2.2.2.2.1 ow_12_0_71 oa_12_0_71 ot_2 h (fun h => ?_)
    refine kz_inc (M := kt_M399) [(0, .ref (w_adr E.2.1 12 0))] kX13_elements_2_c25.2.2.2.2.2.1 rfl (Nat.le_of_ble_eq_true rfl) ⟨⟨rfl, rfl, .inl rfl⟩, trivial⟩ rfl ?_
    refine kz_goto (M := kt_M399) kX13_elements_2_c25.2.2.2.2.2.2.1 (t := 350) rfl ?_
    exact kz_weak [(0, .ref (w_adr E.2.1 12 0)), (4, .int (x4 + 1))] ⟨rfl, ⟨rfl, trivial⟩⟩ rfl h
def zb_X13_elements_2_p347 (E : zE) (L : Nat) (Q : kx_Rs → wS → Prop) (w : wS) : Prop := zL_X13_elements_2_p350 E L Q 0 w
theorem zt_X13_elements_2_p347 {E : zE} {L : Nat} {Q : kx_Rs → wS → Prop} {w : wS} (hL : 23 ≤ L) (h : zb_X13_elements_2_p347 E L Q  w) : kzE E L kt_M399 347 [(0, .ref (w_adr E.2.1 12 0))] [] w Q := by
  unfold zb_X13_elements_2_p347 at h
  refine kz_ic (M := kt_M399) 0 kX13_elements_2_c23.2.2.2.2.2.2.2.1 rfl ?_
  refine kz_sti (M := kt_M399) [(0, .ref (w_adr E.2.1 12 0))] kX13_elements_2_c24.1 (Nat.le_of_ble_eq_true rfl) ⟨⟨rfl, rfl, .inl rfl⟩, trivial⟩ rfl ?_
  exact kz_weak [(0, .ref (w_adr E.2.1 12 0)), (4, .int 0)] ⟨rfl, ⟨rfl, trivial⟩⟩ rfl h
def zb_X13_elements_2_p294 (E : zE) (L : Nat) (Q : kx_Rs → wS → Prop) (x1 : Int32) (x5 : Int32) (w : wS) : Prop := (if 4 ≤ x5 then (kx_inb x1 (w_n w 12 0 96) = true ∧ zb_X13_elements_2_p347 E L Q (ws_a (ws_i w 12 0 98 ((w_i w 12 0 98) + 1)) 12 0 96 (x1).toNatClampNeg ((w_i w 12 0 98) + 1))) else (kx_inb x5 (w_n w 12 0 92) = true ∧ (kx_inb (((w_i w 12 0 98) * 4) + x5) (w_n w 12 0 97) = true ∧ zL_X13_elements_2_p294 E L Q x1 (x5 + 1) (ws_b w 12 0 97 ((((w_i w 12 0 98) * 4) + x5)).toNatClampNeg (w_b w 12 0 92 (x5).toNatClampNeg)))))
theorem zt_X13_elements_2_p294 {E : zE} {L : Nat} {Q : kx_Rs → wS → Prop} {x1 : Int32} {x5 : Int32} {w : wS} (hL : 23 ≤ L) (h : zb_X13_elements_2_p294 E L Q x1 x5 w) : kzE E L kt_M399 294 [(0, .ref (w_adr E.2.1 12 0)), (1, .int x1), (5, .int x5)] [] w Q := by
  unfold zb_X13_elements_2_p294 at h
  refine kz_iload (M := kt_M399) kX13_elements_2_c20.2.1 rfl ?_
  refine kz_ic (M := kt_M399) 4 kX13_elements_2_c20.2.2.1 rfl ?_
  refine kz_icmp_ge (M := kt_M399) kX13_elements_2_c20.2.2.2.1 (t := 327) rfl h (fun h => ?_) (fun h => ?_)
  · skip
    refine kz_aload_n (M := kt_M399) kX13_elements_2_c22.2.2.2.1 rfl ?_
    refine kz_dup (M := kt_M399) kX13_elements_2_c22.2.2.2.2.1 rfl ?_
    refine kz_gfi (M := kt_M399) (c := 12) (o := 0) kX13_elements_2_c22.2.2.2.2.2.1 wf_X13_998 (.inl rfl) ?_
    refine kz_ic (M := kt_M399) 1 kX13_elements_2_c22.2.2.2.2.2.2.1 rfl ?_
    refine kz_iadd (M := kt_M399) kX13_elements_2_c22.2.2.2.2.2.2.2.1 ?_
    refine kz_pfi (M := kt_M399) (c := 12) (o := 0) kX13_elements_2_c23.1 wq_X13_998 (.inl rfl) ?_
    refine kz_aload_n (M := kt_M399) kX13_elements_2_c23.2.1 rfl ?_
    refine kz_gfc (M := kt_M399) (x := 4168) (c := 12) (o := 0) kX13_elements_2_c23.2.2.1 wf_X13_319 (.inl rfl) ?_
    refine kz_iload_n (M := kt_M399) kX13_elements_2_c23.2.2.2.1 rfl ?_
    refine kz_aload_n (M := kt_M399) kX13_elements_2_c23.2.2.2.2.1 rfl ?_
    refine kz_gfiR (M := kt_M399) (c := 12) (o := 0) ((w_i w 12 0 98) + 1) kX13_elements_2_c23.2.2.2.2.2.1 wf_X13_998 (.inl rfl) rd_i_e ?_
    refine kz_iastR (M := kt_M399) (n := w_n w 12 0 96) (c := 12) (o := 0) (k := 96) (a := (E.2.1 4168)) kX13_elements_2_c23.2.2.2.2.2.2.1 ow_12_0_96 oa_12_0_96 ot_0 rd_n_i h (fun h => ?_)
    exact kz_weak [(0, .ref (w_adr E.2.1 12 0))] ⟨rfl, trivial⟩ rfl (zt_X13_elements_2_p347 hL  h)
  · skip
    refine kz_aload_n (M := kt_M399) kX13_elements_2_c20.2.2.2.2.1 rfl ?_
    refine kz_gfc (M := kt_M399) (x := 4169) (c := 12) (o := 0) kX13_elements_2_c20.2.2.2.2.2.1 wf_X13_322 (.inl rfl) ?_
    refine kz_aload_n (M := kt_M399) kX13_elements_2_c20.2.2.2.2.2.2.1 rfl ?_
    refine kz_gfi (M := kt_M399) (c := 12) (o := 0) kX13_elements_2_c20.2.2.2.2.2.2.2.1 wf_X13_998 (.inl rfl) ?_
    refine kz_ic (M := kt_M399) 4 kX13_elements_2_c21.1 rfl ?_
    refine kz_imul (M := kt_M399) kX13_elements_2_c21.2.1 ?_
    refine kz_iload (M := kt_M399) kX13_elements_2_c21.2.2.1 rfl ?_
    refine kz_iadd (M := kt_M399) kX13_elements_2_c21.2.2.2.1 ?_
    refine kz_aload_n (M := kt_M399) kX13_elements_2_c21.2.2.2.2.1 rfl ?_
    refine kz_gfc (M := kt_M399) (x := 4164) (c := 12) (o := 0) kX13_elements_2_c21.2.2.2.2.2.1 wf_X13_310 (.inl rfl) ?_
    refine kz_iload (M := kt_M399) kX13_elements_2_c21.2.2.2.2.2.2.1 rfl ?_
    refine kz_lald (M := kt_M399) (c := 12) (o := 0) (k := 92) (a := (E.2.1 4164)) kX13_elements_2_c21.2.2.2.2.2.2.2.1 ow_12_0_92 oa_12_0_92 ot_3 h (fun h => ?_)
    refine kz_last (M := kt_M399) (c := 12) (o := 0) (k := 97) (a := (E.2.1 4169)) kX13_elements_2_c22.1 ow_12_0_97 oa_12_0_97 ot_3 h (fun h => ?_)
    refine kz_inc (M := kt_M399) [(0, .ref (w_adr E.2.1 12 0)), (1, .int x1)] kX13_elements_2_c22.2.1 rfl (Nat.le_of_ble_eq_true rfl) ⟨⟨rfl, rfl, .inl rfl⟩, ⟨⟨rfl, rfl, .inl rfl⟩, trivial⟩⟩ rfl ?_
    refine kz_goto (M := kt_M399) kX13_elements_2_c22.2.2.1 (t := 294) rfl ?_
    exact kz_weak [(0, .ref (w_adr E.2.1 12 0)), (1, .int x1), (5, .int (x5 + 1))] ⟨rfl, ⟨rfl, ⟨rfl, trivial⟩⟩⟩ rfl h
def zb_X13_elements_2_p275 (E : zE) (L : Nat) (Q : kx_Rs → wS → Prop) (x1 : Int32) (x2 : Int32) (w : wS) : Prop := zw E (L - 23) kt_M493 [.ref (w_adr E.2.1 12 0)] w (wk1 (fun v2 w1 => wle w w1 → zL_X13_elements_2_p199 E L Q x1 x2 v2 w1) (fun e w => Q (.inr e) w))
theorem zt_X13_elements_2_p275 {E : zE} {L : Nat} {Q : kx_Rs → wS → Prop} {x1 : Int32} {x2 : Int32} {w : wS} (hL : 23 ≤ L) (h : zb_X13_elements_2_p275 E L Q x1 x2 w) : kzE E L kt_M399 275 [(0, .ref (w_adr E.2.1 12 0)), (1, .int x1), (2, .int x2)] [] w Q := by
  unfold zb_X13_elements_2_p275 at h
  refine kz_aload_n (M := kt_M399) kX13_elements_2_c19.1 rfl ?_
  refine kz_cv1 (M := kt_M399) (c := 12) (o := 0) (As := []) (rest := []) kX13_elements_2_c19.2.1 wl_X13_995 wMv_493 rfl (.inl rfl) rfl (Nat.le_trans (Nat.le_of_ble_eq_true rfl) hL) (Nat.le_of_ble_eq_true rfl) (Nat.le_of_ble_eq_true rfl) h (fun v2 w1 hle h => ?_) (fun _ _ _ h => kzx_no rfl h)
  have h := h hle
  refine kz_sti (M := kt_M399) [(0, .ref (w_adr E.2.1 12 0)), (1, .int x1), (2, .int x2)] kX13_elements_2_c19.2.2.1 (Nat.le_of_ble_eq_true rfl) ⟨⟨rfl, rfl, .inl rfl⟩, ⟨⟨rfl, rfl, .inl rfl⟩, ⟨⟨rfl, rfl, .inl rfl⟩, trivial⟩⟩⟩ rfl ?_
  refine kz_goto (M := kt_M399) kX13_elements_2_c19.2.2.2.1 (t := 199) rfl ?_
  exact kz_weak [(0, .ref (w_adr E.2.1 12 0)), (1, .int x1), (2, .int x2), (4, .int v2)] ⟨rfl, ⟨rfl, ⟨rfl, ⟨rfl, trivial⟩⟩⟩⟩ rfl h
def zb_X13_elements_2_p251 (E : zE) (L : Nat) (Q : kx_Rs → wS → Prop) (x1 : Int32) (x2 : Int32) (w : wS) : Prop := (kx_inb ((w_i w 12 0 24) >>> (6 &&& 31)) (w_n w 12 0 92) = true ∧ (kx_inb ((w_i w 12 0 24) >>> (6 &&& 31)) (w_n w 12 0 92) = true ∧ zb_X13_elements_2_p275 E L Q x1 x2 (ws_b w 12 0 92 (((w_i w 12 0 24) >>> (6 &&& 31))).toNatClampNeg ((w_b w 12 0 92 (((w_i w 12 0 24) >>> (6 &&& 31))).toNatClampNeg) ||| (1 <<< ((((w_i w 12 0 24) &&& 63)).toInt64 &&& 63))))))
theorem zt_X13_elements_2_p251 {E : zE} {L : Nat} {Q : kx_Rs → wS → Prop} {x1 : Int32} {x2 : Int32} {w : wS} (hL : 23 ≤ L) (h : zb_X13_elements_2_p251 E L Q x1 x2 w) : kzE E L kt_M399 251 [(0, .ref (w_adr E.2.1 12 0)), (1, .int x1), (2, .int x2)] [] w Q := by
  unfold zb_X13_elements_2_p251 at h
  refine kz_aload_n (M := kt_M399) kX13_elements_2_c17.1 rfl ?_
  refine kz_gfc (M := kt_M399) (x := 4164) (c := 12) (o := 0) kX13_elements_2_c17.2.1 wf_X13_310 (.inl rfl) ?_
  refine kz_aload_n (M := kt_M399) kX13_elements_2_c17.2.2.1 rfl ?_
  refine kz_gfi (M := kt_M399) (c := 12) (o := 0) kX13_elements_2_c17.2.2.2.1 wf_X13_493 (.inl rfl) ?_
  refine kz_bi (M := kt_M399) 6 kX13_elements_2_c17.2.2.2.2.1 rfl ?_
  refine kz_ishr (M := kt_M399) kX13_elements_2_c17.2.2.2.2.2.1 ?_
  refine kz_dup2 (M := kt_M399) kX13_elements_2_c17.2.2.2.2.2.2.1 ⟨rfl, rfl⟩ ?_
  refine kz_lald (M := kt_M399) (c := 12) (o := 0) (k := 92) (a := (E.2.1 4164)) kX13_elements_2_c17.2.2.2.2.2.2.2.1 ow_12_0_92 oa_12_0_92 ot_3 h (fun h => ?_)
  refine kz_lconst (M := kt_M399) kX13_elements_2_c18.1 ?_
  refine kz_aload_n (M := kt_M399) kX13_elements_2_c18.2.1 rfl ?_
  refine kz_gfi (M := kt_M399) (c := 12) (o := 0) kX13_elements_2_c18.2.2.1 wf_X13_493 (.inl rfl) ?_
  refine kz_bi (M := kt_M399) 63 kX13_elements_2_c18.2.2.2.1 rfl ?_
  refine kz_iand (M := kt_M399) kX13_elements_2_c18.2.2.2.2.1 ?_
  refine kz_lshl (M := kt_M399) kX13_elements_2_c18.2.2.2.2.2.1 ?_
  refine kz_lor (M := kt_M399) kX13_elements_2_c18.2.2.2.2.2.2.1 ?_
  refine kz_last (M := kt_M399) (c := 12) (o := 0) (k := 92) (a := (E.2.1 4164)) kX13_elements_2_c18.2.2.2.2.2.2.2.1 ow_12_0_92 oa_12_0_92 ot_3 h (fun h => ?_)
  exact kz_weak [(0, .ref (w_adr E.2.1 12 0)), (1, .int x1), (2, .int x2)] ⟨rfl, ⟨rfl, ⟨rfl, trivial⟩⟩⟩ rfl (zt_X13_elements_2_p275 hL  h)
def zb_X13_elements_2_p199 (E : zE) (L : Nat) (Q : kx_Rs → wS → Prop) (x1 : Int32) (x2 : Int32) (x4 : Int32) (w : wS) : Prop := (if x4 = 0 then zw E (L - 21) kt_M442 [.ref (w_adr E.2.1 12 0)] w (wk1 (fun v2 w1 => wle w w1 → (if v2 = 0 then zb_X13_elements_2_p347 E L Q w1 else zL_X13_elements_2_p294 E L Q x1 0 w1)) (fun e w => Q (.inr e) w)) else zw E (L - 23) kt_M428 [.ref (w_adr E.2.1 12 0), .int x1] w (wk1 (fun v4 w3 => wle w w3 → (if v4 = 0 then zb_X13_elements_2_p275 E L Q x1 x2 w3 else (if w_i w3 12 0 24 < 0 then zb_X13_elements_2_p275 E L Q x1 x2 w3 else (if 200 ≤ w_i w3 12 0 24 then zb_X13_elements_2_p275 E L Q x1 x2 w3 else (kx_inb x2 (w_n w3 12 0 48) = true ∧ (if w_a w3 12 0 48 (x2).toNatClampNeg < 0 then zb_X13_elements_2_p251 E L Q x1 x2 w3 else (kx_inb x2 (w_n w3 12 0 48) = true ∧ (if w_a w3 12 0 48 (x2).toNatClampNeg ≤ w_i w3 12 0 24 then zb_X13_elements_2_p275 E L Q x1 x2 w3 else zb_X13_elements_2_p251 E L Q x1 x2 w3)))))))) (fun e w => Q (.inr e) w)))
theorem zt_X13_elements_2_p199 {E : zE} {L : Nat} {Q : kx_Rs → wS → Prop} {x1 : Int32} {x2 : Int32} {x4 : Int32} {w : wS} (hL : 23 ≤ L) (h : zb_X13_elements_2_p199 E L Q x1 x2 x4 w) : kzE E L kt_M399 199 [(0, .ref (w_adr E.2.1 12 0)), (1, .int x1), (2, .int x2), (4, .int x4)] [] w Q := by
  unfold zb_X13_elements_2_p199 at h
  refine kz_iload (M := kt_M399) kX13_elements_2_c13.2.2.2.2.2.2.2.1 rfl ?_
  refine kz_if_eq (M := kt_M399) kX13_elements_2_c14.1 (t := 284) rfl h (fun h => ?_) (fun h => ?_)
  · skip
    refine kz_aload_n (M := kt_M399) kX13_elements_2_c19.2.2.2.2.1 rfl ?_
    refine kz_cv1 (M := kt_M399) (c := 12) (o := 0) (As := []) (rest := []) kX13_elements_2_c19.2.2.2.2.2.1 wl_X13_992 wMv_442 rfl (.inl rfl) rfl (Nat.le_trans (Nat.le_of_ble_eq_true rfl) hL) (Nat.le_of_ble_eq_true rfl) (Nat.le_of_ble_eq_true rfl) h (fun v2 w1 hle h => ?_) (fun _ _ _ h => kzx_no rfl h)
    have h := h hle
    refine kz_if_eq (M := kt_M399) kX13_elements_2_c19.2.2.2.2.2.2.1 (t := 347) rfl h (fun h => ?_) (fun h => ?_)
    · skip
      exact kz_weak [(0, .ref (w_adr E.2.1 12 0))] ⟨rfl, trivial⟩ rfl (zt_X13_elements_2_p347 hL  h)
    · skip
      refine kz_ic (M := kt_M399) 0 kX13_elements_2_c19.2.2.2.2.2.2.2.1 rfl ?_
      refine kz_sti (M := kt_M399) [(0, .ref (w_adr E.2.1 12 0)), (1, .int x1)] kX13_elements_2_c20.1 (Nat.le_of_ble_eq_true rfl) ⟨⟨rfl, rfl, .inl rfl⟩, ⟨⟨rfl, rfl, .inl rfl⟩, trivial⟩⟩ rfl ?_
      exact kz_weak [(0, .ref (w_adr E.2.1 12 0)), (1, .int x1), (5, .int 0)] ⟨rfl, ⟨rfl, ⟨rfl, trivial⟩⟩⟩ rfl h
  · skip
    refine kz_aload_n (M := kt_M399) kX13_elements_2_c14.2.1 rfl ?_
    refine kz_iload_n (M := kt_M399) kX13_elements_2_c14.2.2.1 rfl ?_
    refine kz_cv1 (M := kt_M399) (c := 12) (o := 0) (As := [.int x1]) (rest := []) kX13_elements_2_c14.2.2.2.1 wl_X13_846 wMv_428 rfl (.inl rfl) rfl (Nat.le_trans (Nat.le_of_ble_eq_true rfl) hL) (Nat.le_of_ble_eq_true rfl) (Nat.le_of_ble_eq_true rfl) h (fun v4 w3 hle h => ?_) (fun _ _ _ h => kzx_no rfl h)
    have h := h hle
    refine kz_if_eq (M := kt_M399) kX13_elements_2_c14.2.2.2.2.1 (t := 275) rfl h (fun h => ?_) (fun h => ?_)
    · skip
      exact kz_weak [(0, .ref (w_adr E.2.1 12 0)), (1, .int x1), (2, .int x2)] ⟨rfl, ⟨rfl, ⟨rfl, trivial⟩⟩⟩ rfl (zt_X13_elements_2_p275 hL  h)
    · skip
      refine kz_aload_n (M := kt_M399) kX13_elements_2_c14.2.2.2.2.2.1 rfl ?_
      refine kz_gfi (M := kt_M399) (c := 12) (o := 0) kX13_elements_2_c14.2.2.2.2.2.2.1 wf_X13_493 (.inl rfl) ?_
      refine kz_if_lt (M := kt_M399) kX13_elements_2_c14.2.2.2.2.2.2.2.1 (t := 275) rfl h (fun h => ?_) (fun h => ?_)
      · skip
        exact kz_weak [(0, .ref (w_adr E.2.1 12 0)), (1, .int x1), (2, .int x2)] ⟨rfl, ⟨rfl, ⟨rfl, trivial⟩⟩⟩ rfl (zt_X13_elements_2_p275 hL  h)
      · skip
        refine kz_aload_n (M := kt_M399) kX13_elements_2_c15.1 rfl ?_
        refine kz_gfi (M := kt_M399) (c := 12) (o := 0) kX13_elements_2_c15.2.1 wf_X13_493 (.inl rfl) ?_
        refine kz_si (M := kt_M399) 200 kX13_elements_2_c15.2.2.1 rfl ?_
        refine kz_icmp_ge (M := kt_M399) kX13_elements_2_c15.2.2.2.1 (t := 275) rfl h (fun h => ?_) (fun h => ?_)
        · skip
          exact kz_weak [(0, .ref (w_adr E.2.1 12 0)), (1, .int x1), (2, .int x2)] ⟨rfl, ⟨rfl, ⟨rfl, trivial⟩⟩⟩ rfl (zt_X13_elements_2_p275 hL  h)
        · skip
          refine kz_aload_n (M := kt_M399) kX13_elements_2_c15.2.2.2.2.1 rfl ?_
          refine kz_gfc (M := kt_M399) (x := 4120) (c := 12) (o := 0) kX13_elements_2_c15.2.2.2.2.2.1 wf_X13_229 (.inl rfl) ?_
          refine kz_iload_n (M := kt_M399) kX13_elements_2_c15.2.2.2.2.2.2.1 rfl ?_
          refine kz_iald (M := kt_M399) (c := 12) (o := 0) (k := 48) (a := (E.2.1 4120)) kX13_elements_2_c15.2.2.2.2.2.2.2.1 ow_12_0_48 oa_12_0_48 ot_0 h (fun h => ?_)
          refine kz_if_lt (M := kt_M399) kX13_elements_2_c16.1 (t := 251) rfl h (fun h => ?_) (fun h => ?_)
          · skip
            exact kz_weak [(0, .ref (w_adr E.2.1 12 0)), (1, .int x1), (2, .int x2)] ⟨rfl, ⟨rfl, ⟨rfl, trivial⟩⟩⟩ rfl (zt_X13_elements_2_p251 hL  h)
          · skip
            refine kz_aload_n (M := kt_M399) kX13_elements_2_c16.2.1 rfl ?_
            refine kz_gfi (M := kt_M399) (c := 12) (o := 0) kX13_elements_2_c16.2.2.1 wf_X13_493 (.inl rfl) ?_
            refine kz_aload_n (M := kt_M399) kX13_elements_2_c16.2.2.2.1 rfl ?_
            refine kz_gfc (M := kt_M399) (x := 4120) (c := 12) (o := 0) kX13_elements_2_c16.2.2.2.2.1 wf_X13_229 (.inl rfl) ?_
            refine kz_iload_n (M := kt_M399) kX13_elements_2_c16.2.2.2.2.2.1 rfl ?_
            refine kz_iald (M := kt_M399) (c := 12) (o := 0) (k := 48) (a := (E.2.1 4120)) kX13_elements_2_c16.2.2.2.2.2.2.1 ow_12_0_48 oa_12_0_48 ot_0 h (fun h => ?_)
            refine kz_icmp_ge (M := kt_M399) kX13_elements_2_c16.2.2.2.2.2.2.2.1 (t := 275) rfl h (fun h => ?_) (fun h => ?_)
            · skip
              exact kz_weak [(0, .ref (w_adr E.2.1 12 0)), (1, .int x1), (2, .int x2)] ⟨rfl, ⟨rfl, ⟨rfl, trivial⟩⟩⟩ rfl (zt_X13_elements_2_p275 hL  h)
            · skip
              exact kz_weak [(0, .ref (w_adr E.2.1 12 0)), (1, .int x1), (2, .int x2)] ⟨rfl, ⟨rfl, ⟨rfl, trivial⟩⟩⟩ rfl (zt_X13_elements_2_p251 hL  h)
def zb_X13_elements_2_p190 (E : zE) (L : Nat) (Q : kx_Rs → wS → Prop) (x1 : Int32) (x2 : Int32) (x4 : Int32) (w : wS) : Prop := zL_X13_elements_2_p137 E L Q x1 x2 (x4 + 1) w
theorem zt_X13_elements_2_p190 {E : zE} {L : Nat} {Q : kx_Rs → wS → Prop} {x1 : Int32} {x2 : Int32} {x4 : Int32} {w : wS} (hL : 23 ≤ L) (h : zb_X13_elements_2_p190 E L Q x1 x2 x4 w) : kzE E L kt_M399 190 [(0, .ref (w_adr E.2.1 12 0)), (1, .int x1), (2, .int x2), (4, .int x4)] [] w Q := by
  unfold zb_X13_elements_2_p190 at h
  refine kz_inc (M := kt_M399) [(0, .ref (w_adr E.2.1 12 0)), (1, .int x1), (2, .int x2)] kX13_elements_2_c13.2.2.2.1 rfl (Nat.le_of_ble_eq_true rfl) ⟨⟨rfl, rfl, .inl rfl⟩, ⟨⟨rfl, rfl, .inl rfl⟩, ⟨⟨rfl, rfl, .inl rfl⟩, trivial⟩⟩⟩ rfl ?_
  refine kz_goto (M := kt_M399) kX13_elements_2_c13.2.2.2.2.1 (t := 137) rfl ?_
  exact kz_weak [(0, .ref (w_adr E.2.1 12 0)), (1, .int x1), (2, .int x2), (4, .int (x4 + 1))] ⟨rfl, ⟨rfl, ⟨rfl, ⟨rfl, trivial⟩⟩⟩⟩ rfl h
def zb_X13_elements_2_p137 (E : zE) (L : Nat) (Q : kx_Rs → wS → Prop) (x1 : Int32) (x2 : Int32) (x4 : Int32) (w : wS) : Prop := (if w_i w 12 0 93 ≤ x4 then zL_X13_elements_2_p199 E L Q x1 x2 1 w else (kx_inb x4 (w_n w 12 0 94) = true ∧ (kx_inb (w_a w 12 0 94 (x4).toNatClampNeg) (w_n w 12 0 95) = true ∧ (if ¬ w_a w 12 0 95 (w_a w 12 0 94 (x4).toNatClampNeg).toNatClampNeg = 0 then zb_X13_elements_2_p190 E L Q x1 x2 x4 w else (kx_inb x4 (w_n w 12 0 94) = true ∧ (kx_inb x4 (w_n w 12 0 94) = true ∧ (kx_inb (w_a w 12 0 94 (x4).toNatClampNeg) (w_n w 12 0 55) = true ∧ (kx_inb (w_a w 12 0 55 (w_a w 12 0 94 (x4).toNatClampNeg).toNatClampNeg) (w_n w 12 0 77) = true ∧ (kx_inb (w_a w 12 0 94 (x4).toNatClampNeg) (w_n w 12 0 70) = true ∧ zb_X13_elements_2_p190 E L Q x1 x2 x4 (ws_a w 12 0 70 (w_a w 12 0 94 (x4).toNatClampNeg).toNatClampNeg (w_a w 12 0 77 (w_a w 12 0 55 (w_a w 12 0 94 (x4).toNatClampNeg).toNatClampNeg).toNatClampNeg)))))))))))
theorem zt_X13_elements_2_p137 {E : zE} {L : Nat} {Q : kx_Rs → wS → Prop} {x1 : Int32} {x2 : Int32} {x4 : Int32} {w : wS} (hL : 23 ≤ L) (h : zb_X13_elements_2_p137 E L Q x1 x2 x4 w) : kzE E L kt_M399 137 [(0, .ref (w_adr E.2.1 12 0)), (1, .int x1), (2, .int x2), (4, .int x4)] [] w Q := by
  unfold zb_X13_elements_2_p137 at h
  refine kz_iload (M := kt_M399) kX13_elements_2_c9.2.2.2.2.2.2.1 rfl ?_
  refine kz_aload_n (M := kt_M399) kX13_elements_2_c9.2.2.2.2.2.2.2.1 rfl ?_
  refine kz_gfi (M := kt_M399) (c := 12) (o := 0) kX13_elements_2_c10.1 wf_X13_985 (.inl rfl) ?_
  refine kz_icmp_ge (M := kt_M399) kX13_elements_2_c10.2.1 (t := 196) rfl h (fun h => ?_) (fun h => ?_)
  · skip
    refine kz_ic (M := kt_M399) 1 kX13_elements_2_c13.2.2.2.2.2.1 rfl ?_
    refine kz_sti (M := kt_M399) [(0, .ref (w_adr E.2.1 12 0)), (1, .int x1), (2, .int x2)] kX13_elements_2_c13.2.2.2.2.2.2.1 (Nat.le_of_ble_eq_true rfl) ⟨⟨rfl, rfl, .inl rfl⟩, ⟨⟨rfl, rfl, .inl rfl⟩, ⟨⟨rfl, rfl, .inl rfl⟩, trivial⟩⟩⟩ rfl ?_
    exact kz_weak [(0, .ref (w_adr E.2.1 12 0)), (1, .int x1), (2, .int x2), (4, .int 1)] ⟨rfl, ⟨rfl, ⟨rfl, ⟨rfl, trivial⟩⟩⟩⟩ rfl h
  · skip
    refine kz_aload_n (M := kt_M399) kX13_elements_2_c10.2.2.1 rfl ?_
    refine kz_gfc (M := kt_M399) (x := 4167) (c := 12) (o := 0) kX13_elements_2_c10.2.2.2.1 wf_X13_316 (.inl rfl) ?_
    refine kz_aload_n (M := kt_M399) kX13_elements_2_c10.2.2.2.2.1 rfl ?_
    refine kz_gfc (M := kt_M399) (x := 4166) (c := 12) (o := 0) kX13_elements_2_c10.2.2.2.2.2.1 wf_X13_313 (.inl rfl) ?_
    refine kz_iload (M := kt_M399) kX13_elements_2_c10.2.2.2.2.2.2.1 rfl ?_
    refine kz_iald (M := kt_M399) (c := 12) (o := 0) (k := 94) (a := (E.2.1 4166)) kX13_elements_2_c10.2.2.2.2.2.2.2.1 ow_12_0_94 oa_12_0_94 ot_0 h (fun h => ?_)
    refine kz_zald (M := kt_M399) (c := 12) (o := 0) (k := 95) (a := (E.2.1 4167)) kX13_elements_2_c11.1 ow_12_0_95 oa_12_0_95 ot_2 h (fun h => ?_)
    refine kz_if_ne (M := kt_M399) kX13_elements_2_c11.2.1 (t := 190) rfl h (fun h => ?_) (fun h => ?_)
    · skip
      exact kz_weak [(0, .ref (w_adr E.2.1 12 0)), (1, .int x1), (2, .int x2), (4, .int x4)] ⟨rfl, ⟨rfl, ⟨rfl, ⟨rfl, trivial⟩⟩⟩⟩ rfl (zt_X13_elements_2_p190 hL  h)
    · skip
      refine kz_aload_n (M := kt_M399) kX13_elements_2_c11.2.2.1 rfl ?_
      refine kz_gfc (M := kt_M399) (x := 4142) (c := 12) (o := 0) kX13_elements_2_c11.2.2.2.1 wf_X13_278 (.inl rfl) ?_
      refine kz_aload_n (M := kt_M399) kX13_elements_2_c11.2.2.2.2.1 rfl ?_
      refine kz_gfc (M := kt_M399) (x := 4166) (c := 12) (o := 0) kX13_elements_2_c11.2.2.2.2.2.1 wf_X13_313 (.inl rfl) ?_
      refine kz_iload (M := kt_M399) kX13_elements_2_c11.2.2.2.2.2.2.1 rfl ?_
      refine kz_iald (M := kt_M399) (c := 12) (o := 0) (k := 94) (a := (E.2.1 4166)) kX13_elements_2_c11.2.2.2.2.2.2.2.1 ow_12_0_94 oa_12_0_94 ot_0 h (fun h => ?_)
      refine kz_aload_n (M := kt_M399) kX13_elements_2_c12.1 rfl ?_
      refine kz_gfc (M := kt_M399) (x := 4149) (c := 12) (o := 0) kX13_elements_2_c12.2.1 wf_X13_288 (.inl rfl) ?_
      refine kz_aload_n (M := kt_M399) kX13_elements_2_c12.2.2.1 rfl ?_
      refine kz_gfc (M := kt_M399) (x := 4127) (c := 12) (o := 0) kX13_elements_2_c12.2.2.2.1 wf_X13_251 (.inl rfl) ?_
      refine kz_aload_n (M := kt_M399) kX13_elements_2_c12.2.2.2.2.1 rfl ?_
      refine kz_gfc (M := kt_M399) (x := 4166) (c := 12) (o := 0) kX13_elements_2_c12.2.2.2.2.2.1 wf_X13_313 (.inl rfl) ?_
      refine kz_iload (M := kt_M399) kX13_elements_2_c12.2.2.2.2.2.2.1 rfl ?_
      refine kz_iald (M := kt_M399) (c := 12) (o := 0) (k := 94) (a := (E.2.1 4166)) kX13_elements_2_c12.2.2.2.2.2.2.2.1 ow_12_0_94 oa_12_0_94 ot_0 h (fun h => ?_)
      refine kz_iald (M := kt_M399) (c := 12) (o := 0) (k := 55) (a := (E.2.1 4127)) kX13_elements_2_c13.1 ow_12_0_55 oa_12_0_55 ot_0 h (fun h => ?_)
      refine kz_iald (M := kt_M399) (c := 12) (o := 0) (k := 77) (a := (E.2.1 4149)) kX13_elements_2_c13.2.1 ow_12_0_77 oa_12_0_77 ot_0 h (fun h => ?_)
      refine kz_iast (M := kt_M399) (c := 12) (o := 0) (k := 70) (a := (E.2.1 4142)) kX13_elements_2_c13.2.2.1 ow_12_0_70 oa_12_0_70 ot_0 h (fun h => ?_)
      exact kz_weak [(0, .ref (w_adr E.2.1 12 0)), (1, .int x1), (2, .int x2), (4, .int x4)] ⟨rfl, ⟨rfl, ⟨rfl, ⟨rfl, trivial⟩⟩⟩⟩ rfl (zt_X13_elements_2_p190 hL  h)
def zb_X13_elements_2_p125 (E : zE) (L : Nat) (Q : kx_Rs → wS → Prop) (x1 : Int32) (x2 : Int32) (x3 : Int32) (w : wS) : Prop := (if x3 = 0 then zb_X13_elements_2_p347 E L Q w else zL_X13_elements_2_p137 E L Q x1 x2 0 (ws_i w 12 0 91 0))
theorem zt_X13_elements_2_p125 {E : zE} {L : Nat} {Q : kx_Rs → wS → Prop} {x1 : Int32} {x2 : Int32} {x3 : Int32} {w : wS} (hL : 23 ≤ L) (h : zb_X13_elements_2_p125 E L Q x1 x2 x3 w) : kzE E L kt_M399 125 [(0, .ref (w_adr E.2.1 12 0)), (1, .int x1), (2, .int x2), (3, .int x3)] [] w Q := by
  unfold zb_X13_elements_2_p125 at h
  refine kz_iload_n (M := kt_M399) kX13_elements_2_c8.2.2.2.2.2.2.2.1 rfl ?_
  refine kz_if_eq (M := kt_M399) kX13_elements_2_c9.1 (t := 347) rfl h (fun h => ?_) (fun h => ?_)
  · skip
    exact kz_weak [(0, .ref (w_adr E.2.1 12 0))] ⟨rfl, trivial⟩ rfl (zt_X13_elements_2_p347 hL  h)
  · skip
    refine kz_aload_n (M := kt_M399) kX13_elements_2_c9.2.1 rfl ?_
    refine kz_ic (M := kt_M399) 0 kX13_elements_2_c9.2.2.1 rfl ?_
    refine kz_pfz (M := kt_M399) (c := 12) (o := 0) kX13_elements_2_c9.2.2.2.1 wq_X13_988 (.inl rfl) (by decide) ?_
    refine kz_ic (M := kt_M399) 0 kX13_elements_2_c9.2.2.2.2.1 rfl ?_
    refine kz_sti (M := kt_M399) [(0, .ref (w_adr E.2.1 12 0)), (1, .int x1), (2, .int x2)] kX13_elements_2_c9.2.2.2.2.2.1 (Nat.le_of_ble_eq_true rfl) ⟨⟨rfl, rfl, .inl rfl⟩, ⟨⟨rfl, rfl, .inl rfl⟩, ⟨⟨rfl, rfl, .inl rfl⟩, trivial⟩⟩⟩ rfl ?_
    exact kz_weak [(0, .ref (w_adr E.2.1 12 0)), (1, .int x1), (2, .int x2), (4, .int 0)] ⟨rfl, ⟨rfl, ⟨rfl, ⟨rfl, trivial⟩⟩⟩⟩ rfl h
def zb_X13_elements_2_p85 (E : zE) (L : Nat) (Q : kx_Rs → wS → Prop) (x1 : Int32) (x4 : Int32) (w : wS) : Prop := (if 4 ≤ x4 then zb_X13_elements_2_p347 E L Q w else (kx_inb x1 (w_n w 12 0 96) = true ∧ (kx_inb ((((w_a w 12 0 96 (x1).toNatClampNeg) - 1) * 4) + x4) (w_n w 12 0 97) = true ∧ (kx_inb x4 (w_n w 12 0 92) = true ∧ zL_X13_elements_2_p85 E L Q x1 (x4 + 1) (ws_b w 12 0 92 (x4).toNatClampNeg (w_b w 12 0 97 (((((w_a w 12 0 96 (x1).toNatClampNeg) - 1) * 4) + x4)).toNatClampNeg))))))
theorem zt_X13_elements_2_p85 {E : zE} {L : Nat} {Q : kx_Rs → wS → Prop} {x1 : Int32} {x4 : Int32} {w : wS} (hL : 23 ≤ L) (h : zb_X13_elements_2_p85 E L Q x1 x4 w) : kzE E L kt_M399 85 [(0, .ref (w_adr E.2.1 12 0)), (1, .int x1), (4, .int x4)] [] w Q := by
  unfold zb_X13_elements_2_p85 at h
  refine kz_iload (M := kt_M399) kX13_elements_2_c6.1 rfl ?_
  refine kz_ic (M := kt_M399) 4 kX13_elements_2_c6.2.1 rfl ?_
  refine kz_icmp_ge (M := kt_M399) kX13_elements_2_c6.2.2.1 (t := 122) rfl h (fun h => ?_) (fun h => ?_)
  · skip
    refine kz_goto (M := kt_M399) kX13_elements_2_c8.2.2.2.2.2.2.1 (t := 347) rfl ?_
    exact kz_weak [(0, .ref (w_adr E.2.1 12 0))] ⟨rfl, trivial⟩ rfl (zt_X13_elements_2_p347 hL  h)
  · skip
    refine kz_aload_n (M := kt_M399) kX13_elements_2_c6.2.2.2.1 rfl ?_
    refine kz_gfc (M := kt_M399) (x := 4164) (c := 12) (o := 0) kX13_elements_2_c6.2.2.2.2.1 wf_X13_310 (.inl rfl) ?_
    refine kz_iload (M := kt_M399) kX13_elements_2_c6.2.2.2.2.2.1 rfl ?_
    refine kz_aload_n (M := kt_M399) kX13_elements_2_c6.2.2.2.2.2.2.1 rfl ?_
    refine kz_gfc (M := kt_M399) (x := 4169) (c := 12) (o := 0) kX13_elements_2_c6.2.2.2.2.2.2.2.1 wf_X13_322 (.inl rfl) ?_
    refine kz_aload_n (M := kt_M399) kX13_elements_2_c7.1 rfl ?_
    refine kz_gfc (M := kt_M399) (x := 4168) (c := 12) (o := 0) kX13_elements_2_c7.2.1 wf_X13_319 (.inl rfl) ?_
    refine kz_iload_n (M := kt_M399) kX13_elements_2_c7.2.2.1 rfl ?_
    refine kz_iald (M := kt_M399) (c := 12) (o := 0) (k := 96) (a := (E.2.1 4168)) kX13_elements_2_c7.2.2.2.1 ow_12_0_96 oa_12_0_96 ot_0 h (fun h => ?_)
    refine kz_ic (M := kt_M399) 1 kX13_elements_2_c7.2.2.2.2.1 rfl ?_
    refine kz_isub (M := kt_M399) kX13_elements_2_c7.2.2.2.2.2.1 ?_
    refine kz_ic (M := kt_M399) 4 kX13_elements_2_c7.2.2.2.2.2.2.1 rfl ?_
    refine kz_imul (M := kt_M399) kX13_elements_2_c7.2.2.2.2.2.2.2.1 ?_
    refine kz_iload (M := kt_M399) kX13_elements_2_c8.1 rfl ?_
    refine kz_iadd (M := kt_M399) kX13_elements_2_c8.2.1 ?_
    refine kz_lald (M := kt_M399) (c := 12) (o := 0) (k := 97) (a := (E.2.1 4169)) kX13_elements_2_c8.2.2.1 ow_12_0_97 oa_12_0_97 ot_3 h (fun h => ?_)
    refine kz_last (M := kt_M399) (c := 12) (o := 0) (k := 92) (a := (E.2.1 4164)) kX13_elements_2_c8.2.2.2.1 ow_12_0_92 oa_12_0_92 ot_3 h (fun h => ?_)
    refine kz_inc (M := kt_M399) [(0, .ref (w_adr E.2.1 12 0)), (1, .int x1)] kX13_elements_2_c8.2.2.2.2.1 rfl (Nat.le_of_ble_eq_true rfl) ⟨⟨rfl, rfl, .inl rfl⟩, ⟨⟨rfl, rfl, .inl rfl⟩, trivial⟩⟩ rfl ?_
    refine kz_goto (M := kt_M399) kX13_elements_2_c8.2.2.2.2.2.1 (t := 85) rfl ?_
    exact kz_weak [(0, .ref (w_adr E.2.1 12 0)), (1, .int x1), (4, .int (x4 + 1))] ⟨rfl, ⟨rfl, ⟨rfl, trivial⟩⟩⟩ rfl h
def zb_X13_elements_2_p56 (E : zE) (L : Nat) (Q : kx_Rs → wS → Prop) (x1 : Int32) (x2 : Int32) (y0 : Int32) (w : wS) : Prop := (if y0 = 0 then zb_X13_elements_2_p125 E L Q x1 x2 y0 w else zw E (L - 21) kt_M442 [.ref (w_adr E.2.1 12 0)] w (wk1 (fun v2 w1 => wle w w1 → (if v2 = 0 then zb_X13_elements_2_p125 E L Q x1 x2 y0 w1 else (kx_inb x1 (w_n w1 12 0 96) = true ∧ (if w_a w1 12 0 96 (x1).toNatClampNeg ≤ 0 then zb_X13_elements_2_p125 E L Q x1 x2 y0 w1 else zL_X13_elements_2_p85 E L Q x1 0 (ws_i w1 12 0 91 0))))) (fun e w => Q (.inr e) w)))
theorem zt_X13_elements_2_p56 {E : zE} {L : Nat} {Q : kx_Rs → wS → Prop} {x1 : Int32} {x2 : Int32} {y0 : Int32} {w : wS} (hL : 23 ≤ L) (h : zb_X13_elements_2_p56 E L Q x1 x2 y0 w) : kzE E L kt_M399 56 [(0, .ref (w_adr E.2.1 12 0)), (1, .int x1), (2, .int x2)] [.int y0] w Q := by
  unfold zb_X13_elements_2_p56 at h
  refine kz_sti_n (M := kt_M399) [(0, .ref (w_adr E.2.1 12 0)), (1, .int x1), (2, .int x2)] kX13_elements_2_c4.1 (Nat.le_of_ble_eq_true rfl) ⟨⟨rfl, rfl, .inl rfl⟩, ⟨⟨rfl, rfl, .inl rfl⟩, ⟨⟨rfl, rfl, .inr rfl⟩, trivial⟩⟩⟩ rfl ?_
  refine kz_iload_n (M := kt_M399) kX13_elements_2_c4.2.1 rfl ?_
  refine kz_if_eq (M := kt_M399) kX13_elements_2_c4.2.2.1 (t := 125) rfl h (fun h => ?_) (fun h => ?_)
  · skip
    exact kz_weak [(0, .ref (w_adr E.2.1 12 0)), (1, .int x1), (2, .int x2), (3, .int y0)] ⟨rfl, ⟨rfl, ⟨rfl, ⟨rfl, trivial⟩⟩⟩⟩ rfl (zt_X13_elements_2_p125 hL  h)
  · skip
    refine kz_aload_n (M := kt_M399) kX13_elements_2_c4.2.2.2.1 rfl ?_
    refine kz_cv1 (M := kt_M399) (c := 12) (o := 0) (As := []) (rest := []) kX13_elements_2_c4.2.2.2.2.1 wl_X13_992 wMv_442 rfl (.inl rfl) rfl (Nat.le_trans (Nat.le_of_ble_eq_true rfl) hL) (Nat.le_of_ble_eq_true rfl) (Nat.le_of_ble_eq_true rfl) h (fun v2 w1 hle h => ?_) (fun _ _ _ h => kzx_no rfl h)
    have h := h hle
    refine kz_if_eq (M := kt_M399) kX13_elements_2_c4.2.2.2.2.2.1 (t := 125) rfl h (fun h => ?_) (fun h => ?_)
    · skip
      exact kz_weak [(0, .ref (w_adr E.2.1 12 0)), (1, .int x1), (2, .int x2), (3, .int y0)] ⟨rfl, ⟨rfl, ⟨rfl, ⟨rfl, trivial⟩⟩⟩⟩ rfl (zt_X13_elements_2_p125 hL  h)
    · skip
      refine kz_aload_n (M := kt_M399) kX13_elements_2_c4.2.2.2.2.2.2.1 rfl ?_
      refine kz_gfc (M := kt_M399) (x := 4168) (c := 12) (o := 0) kX13_elements_2_c4.2.2.2.2.2.2.2.1 wf_X13_319 (.inl rfl) ?_
      refine kz_iload_n (M := kt_M399) kX13_elements_2_c5.1 rfl ?_
      refine kz_iald (M := kt_M399) (c := 12) (o := 0) (k := 96) (a := (E.2.1 4168)) kX13_elements_2_c5.2.1 ow_12_0_96 oa_12_0_96 ot_0 h (fun h => ?_)
      refine kz_if_le (M := kt_M399) kX13_elements_2_c5.2.2.1 (t := 125) rfl h (fun h => ?_) (fun h => ?_)
      · skip
        exact kz_weak [(0, .ref (w_adr E.2.1 12 0)), (1, .int x1), (2, .int x2), (3, .int y0)] ⟨rfl, ⟨rfl, ⟨rfl, ⟨rfl, trivial⟩⟩⟩⟩ rfl (zt_X13_elements_2_p125 hL  h)
      · skip
        refine kz_aload_n (M := kt_M399) kX13_elements_2_c5.2.2.2.1 rfl ?_
        refine kz_ic (M := kt_M399) 0 kX13_elements_2_c5.2.2.2.2.1 rfl ?_
        refine kz_pfz (M := kt_M399) (c := 12) (o := 0) kX13_elements_2_c5.2.2.2.2.2.1 wq_X13_988 (.inl rfl) (by decide) ?_
        refine kz_ic (M := kt_M399) 0 kX13_elements_2_c5.2.2.2.2.2.2.1 rfl ?_
        refine kz_sti (M := kt_M399) [(0, .ref (w_adr E.2.1 12 0)), (1, .int x1)] kX13_elements_2_c5.2.2.2.2.2.2.2.1 (Nat.le_of_ble_eq_true rfl) ⟨⟨rfl, rfl, .inl rfl⟩, ⟨⟨rfl, rfl, .inl rfl⟩, trivial⟩⟩ rfl ?_
        exact kz_weak [(0, .ref (w_adr E.2.1 12 0)), (1, .int x1), (4, .int 0)] ⟨rfl, ⟨rfl, ⟨rfl, trivial⟩⟩⟩ rfl h
def zb_X13_elements_2_p55 (E : zE) (L : Nat) (Q : kx_Rs → wS → Prop) (x1 : Int32) (x2 : Int32) (w : wS) : Prop := zb_X13_elements_2_p56 E L Q x1 x2 0 w
theorem zt_X13_elements_2_p55 {E : zE} {L : Nat} {Q : kx_Rs → wS → Prop} {x1 : Int32} {x2 : Int32} {w : wS} (hL : 23 ≤ L) (h : zb_X13_elements_2_p55 E L Q x1 x2 w) : kzE E L kt_M399 55 [(0, .ref (w_adr E.2.1 12 0)), (1, .int x1), (2, .int x2)] [] w Q := by
  unfold zb_X13_elements_2_p55 at h
  refine kz_ic (M := kt_M399) 0 kX13_elements_2_c3.2.2.2.2.2.2.2.1 rfl ?_
  exact kz_weak [(0, .ref (w_adr E.2.1 12 0)), (1, .int x1), (2, .int x2)] ⟨rfl, ⟨rfl, ⟨rfl, trivial⟩⟩⟩ rfl (zt_X13_elements_2_p56 hL  h)
def zb_X13_elements_2_p7 (E : zE) (L : Nat) (Q : kx_Rs → wS → Prop) (x1 : Int32) (x2 : Int32) (x3 : Int32) (w : wS) : Prop := (if 4 ≤ x3 then (if 0 ≤ x1 then zw E (L - 23) kt_M418 [.ref (w_adr E.2.1 12 0), .int x1] (ws_i w 12 0 93 0) (wk1 (fun v2 w1 => wle (ws_i w 12 0 93 0) w1 → (if v2 = 0 then zb_X13_elements_2_p55 E L Q x1 x2 w1 else zw E (L - 23) kt_M440 [.ref (w_adr E.2.1 12 0), .int x1] w1 (wk1 (fun v4 w3 => wle w1 w3 → (if v4 = 0 then zb_X13_elements_2_p55 E L Q x1 x2 w3 else zb_X13_elements_2_p56 E L Q x1 x2 1 w3)) (fun e w => Q (.inr e) w)))) (fun e w => Q (.inr e) w)) else Q (.inl none) w) else (kx_inb x3 (w_n w 12 0 92) = true ∧ zL_X13_elements_2_p7 E L Q x1 x2 (x3 + 1) (ws_b w 12 0 92 (x3).toNatClampNeg 0)))
theorem zt_X13_elements_2_p7 {E : zE} {L : Nat} {Q : kx_Rs → wS → Prop} {x1 : Int32} {x2 : Int32} {x3 : Int32} {w : wS} (hL : 23 ≤ L) (h : zb_X13_elements_2_p7 E L Q x1 x2 x3 w) : kzE E L kt_M399 7 [(0, .ref (w_adr E.2.1 12 0)), (1, .int x1), (2, .int x2), (3, .int x3)] [] w Q := by
  unfold zb_X13_elements_2_p7 at h
  refine kz_iload_n (M := kt_M399) kX13_elements_2_c0.2.2.2.2.2.1 rfl ?_
  refine kz_ic (M := kt_M399) 4 kX13_elements_2_c0.2.2.2.2.2.2.1 rfl ?_
  refine kz_icmp_ge (M := kt_M399) kX13_elements_2_c0.2.2.2.2.2.2.2.1 (t := 25) rfl h (fun h => ?_) (fun h => ?_)
  · skip
    refine kz_iload_n (M := kt_M399) kX13_elements_2_c1.2.2.2.2.2.2.2.1 rfl ?_
    refine kz_if_ge (M := kt_M399) kX13_elements_2_c2.1 (t := 30) rfl h (fun h => ?_) (fun h => ?_)
    · skip
      refine kz_aload_n (M := kt_M399) kX13_elements_2_c2.2.2.1 rfl ?_
      refine kz_ic (M := kt_M399) 0 kX13_elements_2_c2.2.2.2.1 rfl ?_
      refine kz_pfi (M := kt_M399) (c := 12) (o := 0) kX13_elements_2_c2.2.2.2.2.1 wq_X13_985 (.inl rfl) ?_
      refine kz_aload_n (M := kt_M399) kX13_elements_2_c2.2.2.2.2.2.1 rfl ?_
      refine kz_iload_n (M := kt_M399) kX13_elements_2_c2.2.2.2.2.2.2.1 rfl ?_
      refine kz_cv1 (M := kt_M399) (c := 12) (o := 0) (As := [.int x1]) (rest := []) kX13_elements_2_c2.2.2.2.2.2.2.2.1 wl_X13_980 wMv_418 rfl (.inl rfl) rfl (Nat.le_trans (Nat.le_of_ble_eq_true rfl) hL) (Nat.le_of_ble_eq_true rfl) (Nat.le_of_ble_eq_true rfl) h (fun v2 w1 hle h => ?_) (fun _ _ _ h => kzx_no rfl h)
      have h := h hle
      refine kz_if_eq (M := kt_M399) kX13_elements_2_c3.1 (t := 55) rfl h (fun h => ?_) (fun h => ?_)
      · skip
        exact kz_weak [(0, .ref (w_adr E.2.1 12 0)), (1, .int x1), (2, .int x2)] ⟨rfl, ⟨rfl, ⟨rfl, trivial⟩⟩⟩ rfl (zt_X13_elements_2_p55 hL  h)
      · skip
        refine kz_aload_n (M := kt_M399) kX13_elements_2_c3.2.1 rfl ?_
        refine kz_iload_n (M := kt_M399) kX13_elements_2_c3.2.2.1 rfl ?_
        refine kz_cv1 (M := kt_M399) (c := 12) (o := 0) (As := [.int x1]) (rest := []) kX13_elements_2_c3.2.2.2.1 wl_X13_816 wMv_440 rfl (.inl rfl) rfl (Nat.le_trans (Nat.le_of_ble_eq_true rfl) hL) (Nat.le_of_ble_eq_true rfl) (Nat.le_of_ble_eq_true rfl) h (fun v4 w3 hle h => ?_) (fun _ _ _ h => kzx_no rfl h)
        have h := h hle
        refine kz_if_eq (M := kt_M399) kX13_elements_2_c3.2.2.2.2.1 (t := 55) rfl h (fun h => ?_) (fun h => ?_)
        · skip
          exact kz_weak [(0, .ref (w_adr E.2.1 12 0)), (1, .int x1), (2, .int x2)] ⟨rfl, ⟨rfl, ⟨rfl, trivial⟩⟩⟩ rfl (zt_X13_elements_2_p55 hL  h)
        · skip
          refine kz_ic (M := kt_M399) 1 kX13_elements_2_c3.2.2.2.2.2.1 rfl ?_
          refine kz_goto (M := kt_M399) kX13_elements_2_c3.2.2.2.2.2.2.1 (t := 56) rfl ?_
          exact kz_weak [(0, .ref (w_adr E.2.1 12 0)), (1, .int x1), (2, .int x2)] ⟨rfl, ⟨rfl, ⟨rfl, trivial⟩⟩⟩ rfl (zt_X13_elements_2_p56 hL  h)
    · skip
      exact kz_ret (M := kt_M399) kX13_elements_2_c2.2.1 rfl h
  · skip
    refine kz_aload_n (M := kt_M399) kX13_elements_2_c1.1 rfl ?_
    refine kz_gfc (M := kt_M399) (x := 4164) (c := 12) (o := 0) kX13_elements_2_c1.2.1 wf_X13_310 (.inl rfl) ?_
    refine kz_iload_n (M := kt_M399) kX13_elements_2_c1.2.2.1 rfl ?_
    refine kz_lconst (M := kt_M399) kX13_elements_2_c1.2.2.2.1 ?_
    refine kz_last (M := kt_M399) (c := 12) (o := 0) (k := 92) (a := (E.2.1 4164)) kX13_elements_2_c1.2.2.2.2.1 ow_12_0_92 oa_12_0_92 ot_3 h (fun h => ?_)
    refine kz_inc (M := kt_M399) [(0, .ref (w_adr E.2.1 12 0)), (1, .int x1), (2, .int x2)] kX13_elements_2_c1.2.2.2.2.2.1 rfl (Nat.le_of_ble_eq_true rfl) ⟨⟨rfl, rfl, .inl rfl⟩, ⟨⟨rfl, rfl, .inl rfl⟩, ⟨⟨rfl, rfl, .inr rfl⟩, trivial⟩⟩⟩ rfl ?_
    refine kz_goto (M := kt_M399) kX13_elements_2_c1.2.2.2.2.2.2.1 (t := 7) rfl ?_
    exact kz_weak [(0, .ref (w_adr E.2.1 12 0)), (1, .int x1), (2, .int x2), (3, .int (x3 + 1))] ⟨rfl, ⟨rfl, ⟨rfl, ⟨rfl, trivial⟩⟩⟩⟩ rfl h
def zb_X13_elements_2_p0 (E : zE) (L : Nat) (Q : kx_Rs → wS → Prop) (x1 : Int32) (x2 : Int32) (w : wS) : Prop := zL_X13_elements_2_p7 E L Q x1 x2 0 (ws_i w 12 0 91 1)
theorem zt_X13_elements_2_p0 {E : zE} {L : Nat} {Q : kx_Rs → wS → Prop} {x1 : Int32} {x2 : Int32} {w : wS} (hL : 23 ≤ L) (h : zb_X13_elements_2_p0 E L Q x1 x2 w) : kzE E L kt_M399 0 [(0, .ref (w_adr E.2.1 12 0)), (1, .int x1), (2, .int x2)] [] w Q := by
  unfold zb_X13_elements_2_p0 at h
  refine kz_aload_n (M := kt_M399) kX13_elements_2_c0.1 rfl ?_
  refine kz_ic (M := kt_M399) 1 kX13_elements_2_c0.2.1 rfl ?_
  refine kz_pfz (M := kt_M399) (c := 12) (o := 0) kX13_elements_2_c0.2.2.1 wq_X13_988 (.inl rfl) (by decide) ?_
  refine kz_ic (M := kt_M399) 0 kX13_elements_2_c0.2.2.2.1 rfl ?_
  refine kz_sti_n (M := kt_M399) [(0, .ref (w_adr E.2.1 12 0)), (1, .int x1), (2, .int x2)] kX13_elements_2_c0.2.2.2.2.1 (Nat.le_of_ble_eq_true rfl) ⟨⟨rfl, rfl, .inl rfl⟩, ⟨⟨rfl, rfl, .inl rfl⟩, ⟨⟨rfl, rfl, .inr rfl⟩, trivial⟩⟩⟩ rfl ?_
  exact kz_weak [(0, .ref (w_adr E.2.1 12 0)), (1, .int x1), (2, .int x2), (3, .int 0)] ⟨rfl, ⟨rfl, ⟨rfl, ⟨rfl, trivial⟩⟩⟩⟩ rfl h
def zL_X13_gather_p124 (E : zE) (L : Nat) (Q : kx_Rs → wS → Prop) (x2 : Int32) (x3 : Int32) (w : wS) : Prop := kzE E L kt_M418 124 [(0, .ref (w_adr E.2.1 12 0)), (2, .int x2), (3, .int x3)] [] w Q
def zb_X13_gather_p233 (E : zE) (L : Nat) (Q : kx_Rs → wS → Prop) (y0 : Int32) (w : wS) : Prop := ((y0 = 0 ∨ y0 = 1) ∧ Q (.inl (some (.int y0))) w)
theorem zt_X13_gather_p233 {E : zE} {L : Nat} {Q : kx_Rs → wS → Prop} {y0 : Int32} {w : wS} (hL : 23 ≤ L) (h : zb_X13_gather_p233 E L Q y0 w) : kzE E L kt_M418 233 [(0, .ref (w_adr E.2.1 12 0))] [.int y0] w Q := by
  unfold zb_X13_gather_p233 at h
  exact kz_iretz (M := kt_M418) kX13_gather_c14.2.2.2.1 rfl h.1 h.2
def zb_X13_gather_p219 (E : zE) (L : Nat) (Q : kx_Rs → wS → Prop) (w : wS) : Prop := (if 64 ≤ w_i w 12 0 93 then zb_X13_gather_p233 E L Q 0 w else zb_X13_gather_p233 E L Q 1 w)
theorem zt_X13_gather_p219 {E : zE} {L : Nat} {Q : kx_Rs → wS → Prop} {w : wS} (hL : 23 ≤ L) (h : zb_X13_gather_p219 E L Q  w) : kzE E L kt_M418 219 [(0, .ref (w_adr E.2.1 12 0))] [] w Q := by
  unfold zb_X13_gather_p219 at h
  refine kz_aload_n (M := kt_M418) kX13_gather_c13.2.2.2.2.1 rfl ?_
  refine kz_gfi (M := kt_M418) (c := 12) (o := 0) kX13_gather_c13.2.2.2.2.2.1 wf_X13_985 (.inl rfl) ?_
  refine kz_bi (M := kt_M418) 64 kX13_gather_c13.2.2.2.2.2.2.1 rfl ?_
  refine kz_icmp_ge (M := kt_M418) kX13_gather_c13.2.2.2.2.2.2.2.1 (t := 232) rfl h (fun h => ?_) (fun h => ?_)
  · skip
    refine kz_ic (M := kt_M418) 0 kX13_gather_c14.2.2.1 rfl ?_
    exact kz_weak [(0, .ref (w_adr E.2.1 12 0))] ⟨rfl, trivial⟩ rfl (zt_X13_gather_p233 hL  h)
  · skip
    refine kz_ic (M := kt_M418) 1 kX13_gather_c14.1 rfl ?_
    refine kz_goto (M := kt_M418) kX13_gather_c14.2.1 (t := 233) rfl ?_
    exact kz_weak [(0, .ref (w_adr E.2.1 12 0))] ⟨rfl, trivial⟩ rfl (zt_X13_gather_p233 hL  h)
def zb_X13_gather_p199 (E : zE) (L : Nat) (Q : kx_Rs → wS → Prop) (w : wS) : Prop := Q (.inl (some (.int 0))) w
theorem zt_X13_gather_p199 {E : zE} {L : Nat} {Q : kx_Rs → wS → Prop} {w : wS} (hL : 23 ≤ L) (h : zb_X13_gather_p199 E L Q  w) : kzE E L kt_M418 199 [(0, .ref (w_adr E.2.1 12 0))] [] w Q := by
  unfold zb_X13_gather_p199 at h
  refine kz_ic (M := kt_M418) 0 kX13_gather_c12.2.1 rfl ?_
  exact kz_iretz (M := kt_M418) kX13_gather_c12.2.2.1 rfl (by decide) h
def zb_X13_gather_p124 (E : zE) (L : Nat) (Q : kx_Rs → wS → Prop) (x2 : Int32) (x3 : Int32) (w : wS) : Prop := (if x3 < 0 then ((x2 = 0 ∨ x2 = 1) ∧ Q (.inl (some (.int x2))) w) else zw E (L - 23) kt_M418 [.ref (w_adr E.2.1 12 0), .int x3] w (wk1 (fun v2 w1 => wle w w1 → (kx_inb x3 (w_n w1 12 0 32) = true ∧ zL_X13_gather_p124 E L Q (v2 &&& x2) (w_a w1 12 0 32 (x3).toNatClampNeg) w1)) (fun e w => Q (.inr e) w)))
theorem zt_X13_gather_p124 {E : zE} {L : Nat} {Q : kx_Rs → wS → Prop} {x2 : Int32} {x3 : Int32} {w : wS} (hL : 23 ≤ L) (h : zb_X13_gather_p124 E L Q x2 x3 w) : kzE E L kt_M418 124 [(0, .ref (w_adr E.2.1 12 0)), (2, .int x2), (3, .int x3)] [] w Q := by
  unfold zb_X13_gather_p124 at h
  refine kz_iload_n (M := kt_M418) kX13_gather_c6.2.1 rfl ?_
  refine kz_if_lt (M := kt_M418) kX13_gather_c6.2.2.1 (t := 146) rfl h (fun h => ?_) (fun h => ?_)
  · skip
    refine kz_iload_n (M := kt_M418) kX13_gather_c7.2.2.2.2.2.2.2.1 rfl ?_
    exact kz_iretz (M := kt_M418) kX13_gather_c8.1 rfl h.1 h.2
  · skip
    refine kz_aload_n (M := kt_M418) kX13_gather_c6.2.2.2.1 rfl ?_
    refine kz_iload_n (M := kt_M418) kX13_gather_c6.2.2.2.2.1 rfl ?_
    refine kz_cv1 (M := kt_M418) (c := 12) (o := 0) (As := [.int x3]) (rest := []) kX13_gather_c6.2.2.2.2.2.1 wl_X13_980 wMv_418 rfl (.inl rfl) rfl (Nat.le_trans (Nat.le_of_ble_eq_true rfl) hL) (Nat.le_of_ble_eq_true rfl) (Nat.le_of_ble_eq_true rfl) h (fun v2 w1 hle h => ?_) (fun _ _ _ h => kzx_no rfl h)
    have h := h hle
    refine kz_iload_n (M := kt_M418) kX13_gather_c6.2.2.2.2.2.2.1 rfl ?_
    refine kz_iand (M := kt_M418) kX13_gather_c6.2.2.2.2.2.2.2.1 ?_
    refine kz_sti_n (M := kt_M418) [(0, .ref (w_adr E.2.1 12 0)), (3, .int x3)] kX13_gather_c7.1 (Nat.le_of_ble_eq_true rfl) ⟨⟨rfl, rfl, .inl rfl⟩, ⟨⟨rfl, rfl, .inl rfl⟩, trivial⟩⟩ rfl ?_
    refine kz_aload_n (M := kt_M418) kX13_gather_c7.2.1 rfl ?_
    refine kz_gfc (M := kt_M418) (x := 4104) (c := 12) (o := 0) kX13_gather_c7.2.2.1 wf_X13_205 (.inl rfl) ?_
    refine kz_iload_n (M := kt_M418) kX13_gather_c7.2.2.2.1 rfl ?_
    refine kz_iald (M := kt_M418) (c := 12) (o := 0) (k := 32) (a := (E.2.1 4104)) kX13_gather_c7.2.2.2.2.1 ow_12_0_32 oa_12_0_32 ot_0 h (fun h => ?_)
    refine kz_sti_n (M := kt_M418) [(0, .ref (w_adr E.2.1 12 0)), (2, .int (v2 &&& x2))] kX13_gather_c7.2.2.2.2.2.1 (Nat.le_of_ble_eq_true rfl) ⟨⟨rfl, rfl, .inl rfl⟩, ⟨⟨rfl, rfl, .inr rfl⟩, trivial⟩⟩ rfl ?_
    refine kz_goto (M := kt_M418) kX13_gather_c7.2.2.2.2.2.2.1 (t := 124) rfl ?_
    exact kz_weak [(0, .ref (w_adr E.2.1 12 0)), (2, .int (v2 &&& x2)), (3, .int (w_a w1 12 0 32 (x3).toNatClampNeg))] ⟨rfl, ⟨rfl, ⟨rfl, trivial⟩⟩⟩ rfl h
def zb_X13_gather_p92 (E : zE) (L : Nat) (Q : kx_Rs → wS → Prop) (y0 : Int32) (w : wS) : Prop := ((y0 = 0 ∨ y0 = 1) ∧ Q (.inl (some (.int y0))) w)
theorem zt_X13_gather_p92 {E : zE} {L : Nat} {Q : kx_Rs → wS → Prop} {y0 : Int32} {w : wS} (hL : 23 ≤ L) (h : zb_X13_gather_p92 E L Q y0 w) : kzE E L kt_M418 92 [(0, .ref (w_adr E.2.1 12 0))] [.int y0] w Q := by
  unfold zb_X13_gather_p92 at h
  exact kz_iretz (M := kt_M418) kX13_gather_c3.2.2.2.1 rfl h.1 h.2
def zb_X13_gather_p87 (E : zE) (L : Nat) (Q : kx_Rs → wS → Prop) (w : wS) : Prop := zb_X13_gather_p92 E L Q 1 w
theorem zt_X13_gather_p87 {E : zE} {L : Nat} {Q : kx_Rs → wS → Prop} {w : wS} (hL : 23 ≤ L) (h : zb_X13_gather_p87 E L Q  w) : kzE E L kt_M418 87 [(0, .ref (w_adr E.2.1 12 0))] [] w Q := by
  unfold zb_X13_gather_p87 at h
  refine kz_ic (M := kt_M418) 1 kX13_gather_c3.1 rfl ?_
  refine kz_goto (M := kt_M418) kX13_gather_c3.2.1 (t := 92) rfl ?_
  exact kz_weak [(0, .ref (w_adr E.2.1 12 0))] ⟨rfl, trivial⟩ rfl (zt_X13_gather_p92 hL  h)
def zb_X13_gather_p74 (E : zE) (L : Nat) (Q : kx_Rs → wS → Prop) (x1 : Int32) (w : wS) : Prop := (kx_inb x1 (w_n w 12 0 28) = true ∧ zw E (L - 23) kt_M418 [.ref (w_adr E.2.1 12 0), .int (w_a w 12 0 28 (x1).toNatClampNeg)] w (wk1 (fun v2 w1 => wle w w1 → (if v2 = 0 then zb_X13_gather_p92 E L Q 0 w1 else zb_X13_gather_p87 E L Q w1)) (fun e w => Q (.inr e) w)))
theorem zt_X13_gather_p74 {E : zE} {L : Nat} {Q : kx_Rs → wS → Prop} {x1 : Int32} {w : wS} (hL : 23 ≤ L) (h : zb_X13_gather_p74 E L Q x1 w) : kzE E L kt_M418 74 [(0, .ref (w_adr E.2.1 12 0)), (1, .int x1)] [] w Q := by
  unfold zb_X13_gather_p74 at h
  refine kz_aload_n (M := kt_M418) kX13_gather_c2.2.1 rfl ?_
  refine kz_aload_n (M := kt_M418) kX13_gather_c2.2.2.1 rfl ?_
  refine kz_gfc (M := kt_M418) (x := 4100) (c := 12) (o := 0) kX13_gather_c2.2.2.2.1 wf_X13_193 (.inl rfl) ?_
  refine kz_iload_n (M := kt_M418) kX13_gather_c2.2.2.2.2.1 rfl ?_
  refine kz_iald (M := kt_M418) (c := 12) (o := 0) (k := 28) (a := (E.2.1 4100)) kX13_gather_c2.2.2.2.2.2.1 ow_12_0_28 oa_12_0_28 ot_0 h (fun h => ?_)
  refine kz_cv1 (M := kt_M418) (c := 12) (o := 0) (As := [.int (w_a w 12 0 28 (x1).toNatClampNeg)]) (rest := []) kX13_gather_c2.2.2.2.2.2.2.1 wl_X13_980 wMv_418 rfl (.inl rfl) rfl (Nat.le_trans (Nat.le_of_ble_eq_true rfl) hL) (Nat.le_of_ble_eq_true rfl) (Nat.le_of_ble_eq_true rfl) h (fun v2 w1 hle h => ?_) (fun _ _ _ h => kzx_no rfl h)
  have h := h hle
  refine kz_if_eq (M := kt_M418) kX13_gather_c2.2.2.2.2.2.2.2.1 (t := 91) rfl h (fun h => ?_) (fun h => ?_)
  · skip
    refine kz_ic (M := kt_M418) 0 kX13_gather_c3.2.2.1 rfl ?_
    exact kz_weak [(0, .ref (w_adr E.2.1 12 0))] ⟨rfl, trivial⟩ rfl (zt_X13_gather_p92 hL  h)
  · skip
    exact kz_weak [(0, .ref (w_adr E.2.1 12 0))] ⟨rfl, trivial⟩ rfl (zt_X13_gather_p87 hL  h)
def zb_X13_gather_p0 (E : zE) (L : Nat) (Q : kx_Rs → wS → Prop) (x1 : Int32) (w : wS) : Prop := (kx_inb x1 (w_n w 12 0 26) = true ∧ (if w_a w 12 0 26 (x1).toNatClampNeg = 57 then (kx_inb x1 (w_n w 12 0 29) = true ∧ (if ¬ w_a w 12 0 29 (x1).toNatClampNeg = 27 then zb_X13_gather_p74 E L Q x1 w else (kx_inb x1 (w_n w 12 0 26) = true ∧ (if w_a w 12 0 26 (x1).toNatClampNeg = 62 then zb_X13_gather_p87 E L Q w else zb_X13_gather_p74 E L Q x1 w)))) else (if w_a w 12 0 26 (x1).toNatClampNeg = 58 then (kx_inb x1 (w_n w 12 0 29) = true ∧ (if ¬ w_a w 12 0 29 (x1).toNatClampNeg = 27 then zb_X13_gather_p74 E L Q x1 w else (kx_inb x1 (w_n w 12 0 26) = true ∧ (if w_a w 12 0 26 (x1).toNatClampNeg = 62 then zb_X13_gather_p87 E L Q w else zb_X13_gather_p74 E L Q x1 w)))) else (if w_a w 12 0 26 (x1).toNatClampNeg = 60 then (kx_inb x1 (w_n w 12 0 31) = true ∧ (kx_inb (w_a w 12 0 31 (x1).toNatClampNeg) (w_n w 12 0 46) = true ∧ (if w_a w 12 0 46 (w_a w 12 0 31 (x1).toNatClampNeg).toNatClampNeg = 9 then (kx_inb (w_a w 12 0 31 (x1).toNatClampNeg) (w_n w 12 0 55) = true ∧ (kx_inb (w_a w 12 0 55 (w_a w 12 0 31 (x1).toNatClampNeg).toNatClampNeg) (w_n w 12 0 76) = true ∧ (if (lg_cmp (w_b w 12 0 76 (w_a w 12 0 55 (w_a w 12 0 31 (x1).toNatClampNeg).toNatClampNeg).toNatClampNeg) 0) = 0 then zb_X13_gather_p199 E L Q w else (kx_inb (w_a w 12 0 55 (w_a w 12 0 31 (x1).toNatClampNeg).toNatClampNeg) (w_n w 12 0 76) = true ∧ (if (lg_cmp (w_b w 12 0 76 (w_a w 12 0 55 (w_a w 12 0 31 (x1).toNatClampNeg).toNatClampNeg).toNatClampNeg) 1000) ≤ 0 then (kx_inb (w_a w 12 0 31 (x1).toNatClampNeg) (w_n w 12 0 71) = true ∧ (if ¬ w_a w 12 0 71 (w_a w 12 0 31 (x1).toNatClampNeg).toNatClampNeg = 0 then zb_X13_gather_p219 E L Q w else (if ¬ w_i w 12 0 93 = 64 then (kx_inb (w_a w 12 0 31 (x1).toNatClampNeg) (w_n w 12 0 71) = true ∧ (kx_inb (w_i w 12 0 93) (w_n w 12 0 94) = true ∧ Q (.inl (some (.int 1))) (ws_i (ws_a (ws_a w 12 0 71 (w_a w 12 0 31 (x1).toNatClampNeg).toNatClampNeg (vp_nar .boolean 1)) 12 0 94 (w_i w 12 0 93).toNatClampNeg (w_a w 12 0 31 (x1).toNatClampNeg)) 12 0 93 ((w_i w 12 0 93) + 1)))) else zb_X13_gather_p219 E L Q w))) else zb_X13_gather_p199 E L Q w))))) else Q (.inl (some (.int 1))) w))) else (if w_a w 12 0 26 (x1).toNatClampNeg = 62 then (kx_inb x1 (w_n w 12 0 29) = true ∧ (if ¬ w_a w 12 0 29 (x1).toNatClampNeg = 27 then zb_X13_gather_p74 E L Q x1 w else (kx_inb x1 (w_n w 12 0 26) = true ∧ (if w_a w 12 0 26 (x1).toNatClampNeg = 62 then zb_X13_gather_p87 E L Q w else zb_X13_gather_p74 E L Q x1 w)))) else (if w_a w 12 0 26 (x1).toNatClampNeg = 63 then (kx_inb x1 (w_n w 12 0 28) = true ∧ zw E (L - 23) kt_M418 [.ref (w_adr E.2.1 12 0), .int (w_a w 12 0 28 (x1).toNatClampNeg)] w (wk1 (fun v2 w1 => wle w w1 → (kx_inb x1 (w_n w1 12 0 30) = true ∧ zw E (L - 23) kt_M418 [.ref (w_adr E.2.1 12 0), .int (w_a w1 12 0 30 (x1).toNatClampNeg)] w1 (wk1 (fun v4 w3 => wle w1 w3 → (((v2 &&& v4) = 0 ∨ (v2 &&& v4) = 1) ∧ Q (.inl (some (.int (v2 &&& v4)))) w3)) (fun e w => Q (.inr e) w)))) (fun e w => Q (.inr e) w))) else (if w_a w 12 0 26 (x1).toNatClampNeg = 64 then (kx_inb x1 (w_n w 12 0 28) = true ∧ zL_X13_gather_p124 E L Q 1 (w_a w 12 0 28 (x1).toNatClampNeg) w) else Q (.inl (some (.int 1))) w)))))))
theorem zt_X13_gather_p0 {E : zE} {L : Nat} {Q : kx_Rs → wS → Prop} {x1 : Int32} {w : wS} (hL : 23 ≤ L) (h : zb_X13_gather_p0 E L Q x1 w) : kzE E L kt_M418 0 [(0, .ref (w_adr E.2.1 12 0)), (1, .int x1)] [] w Q := by
  unfold zb_X13_gather_p0 at h
  refine kz_aload_n (M := kt_M418) kX13_gather_c0.1 rfl ?_
  refine kz_gfc (M := kt_M418) (x := 4098) (c := 12) (o := 0) kX13_gather_c0.2.1 wf_X13_187 (.inl rfl) ?_
  refine kz_iload_n (M := kt_M418) kX13_gather_c0.2.2.1 rfl ?_
  refine kz_iald (M := kt_M418) (c := 12) (o := 0) (k := 26) (a := (E.2.1 4098)) kX13_gather_c0.2.2.2.1 ow_12_0_26 oa_12_0_26 ot_0 h (fun h => ?_)
  refine kz_tsw (M := kt_M418) [(57, 52), (58, 52), (60, 148), (62, 52), (63, 93), (64, 115)] [_, _, _, _, _, _] 263 dX13_gather_p6 (by decide +kernel) h ⟨fun h => ?_, fun h => ?_, fun h => ?_, fun h => ?_, fun h => ?_, fun h => ?_, trivial⟩ (fun h => ?_)
  · skip
    refine kz_aload_n (M := kt_M418) kX13_gather_c0.2.2.2.2.2.1 rfl ?_
    refine kz_gfc (M := kt_M418) (x := 4101) (c := 12) (o := 0) kX13_gather_c0.2.2.2.2.2.2.1 wf_X13_196 (.inl rfl) ?_
    refine kz_iload_n (M := kt_M418) kX13_gather_c0.2.2.2.2.2.2.2.1 rfl ?_
    refine kz_iald (M := kt_M418) (c := 12) (o := 0) (k := 29) (a := (E.2.1 4101)) kX13_gather_c1.1 ow_12_0_29 oa_12_0_29 ot_0 h (fun h => ?_)
    refine kz_bi (M := kt_M418) 27 kX13_gather_c1.2.1 rfl ?_
    refine kz_icmp_ne (M := kt_M418) kX13_gather_c1.2.2.1 (t := 74) rfl h (fun h => ?_) (fun h => ?_)
    · skip
      exact kz_weak [(0, .ref (w_adr E.2.1 12 0)), (1, .int x1)] ⟨rfl, ⟨rfl, trivial⟩⟩ rfl (zt_X13_gather_p74 hL  h)
    · skip
      refine kz_aload_n (M := kt_M418) kX13_gather_c1.2.2.2.1 rfl ?_
      refine kz_gfc (M := kt_M418) (x := 4098) (c := 12) (o := 0) kX13_gather_c1.2.2.2.2.1 wf_X13_187 (.inl rfl) ?_
      refine kz_iload_n (M := kt_M418) kX13_gather_c1.2.2.2.2.2.1 rfl ?_
      refine kz_iald (M := kt_M418) (c := 12) (o := 0) (k := 26) (a := (E.2.1 4098)) kX13_gather_c1.2.2.2.2.2.2.1 ow_12_0_26 oa_12_0_26 ot_0 h (fun h => ?_)
      refine kz_bi (M := kt_M418) 62 kX13_gather_c1.2.2.2.2.2.2.2.1 rfl ?_
      refine kz_icmp_eq (M := kt_M418) kX13_gather_c2.1 (t := 87) rfl h (fun h => ?_) (fun h => ?_)
      · skip
        exact kz_weak [(0, .ref (w_adr E.2.1 12 0))] ⟨rfl, trivial⟩ rfl (zt_X13_gather_p87 hL  h)
      · skip
        exact kz_weak [(0, .ref (w_adr E.2.1 12 0)), (1, .int x1)] ⟨rfl, ⟨rfl, trivial⟩⟩ rfl (zt_X13_gather_p74 hL  h)
  · skip
    refine kz_aload_n (M := kt_M418) kX13_gather_c0.2.2.2.2.2.1 rfl ?_
    refine kz_gfc (M := kt_M418) (x := 4101) (c := 12) (o := 0) kX13_gather_c0.2.2.2.2.2.2.1 wf_X13_196 (.inl rfl) ?_
    refine kz_iload_n (M := kt_M418) kX13_gather_c0.2.2.2.2.2.2.2.1 rfl ?_
    refine kz_iald (M := kt_M418) (c := 12) (o := 0) (k := 29) (a := (E.2.1 4101)) kX13_gather_c1.1 ow_12_0_29 oa_12_0_29 ot_0 h (fun h => ?_)
    refine kz_bi (M := kt_M418) 27 kX13_gather_c1.2.1 rfl ?_
    refine kz_icmp_ne (M := kt_M418) kX13_gather_c1.2.2.1 (t := 74) rfl h (fun h => ?_) (fun h => ?_)
    · skip
      exact kz_weak [(0, .ref (w_adr E.2.1 12 0)), (1, .int x1)] ⟨rfl, ⟨rfl, trivial⟩⟩ rfl (zt_X13_gather_p74 hL  h)
    · skip
      refine kz_aload_n (M := kt_M418) kX13_gather_c1.2.2.2.1 rfl ?_
      refine kz_gfc (M := kt_M418) (x := 4098) (c := 12) (o := 0) kX13_gather_c1.2.2.2.2.1 wf_X13_187 (.inl rfl) ?_
      refine kz_iload_n (M := kt_M418) kX13_gather_c1.2.2.2.2.2.1 rfl ?_
      refine kz_iald (M := kt_M418) (c := 12) (o := 0) (k := 26) (a := (E.2.1 4098)) kX13_gather_c1.2.2.2.2.2.2.1 ow_12_0_26 oa_12_0_26 ot_0 h (fun h => ?_)
      refine kz_bi (M := kt_M418) 62 kX13_gather_c1.2.2.2.2.2.2.2.1 rfl ?_
      refine kz_icmp_eq (M := kt_M418) kX13_gather_c2.1 (t := 87) rfl h (fun h => ?_) (fun h => ?_)
      · skip
        exact kz_weak [(0, .ref (w_adr E.2.1 12 0))] ⟨rfl, trivial⟩ rfl (zt_X13_gather_p87 hL  h)
      · skip
        exact kz_weak [(0, .ref (w_adr E.2.1 12 0)), (1, .int x1)] ⟨rfl, ⟨rfl, trivial⟩⟩ rfl (zt_X13_gather_p74 hL  h)
  · skip
    refine kz_aload_n (M := kt_M418) kX13_gather_c8.2.1 rfl ?_
    refine kz_gfc (M := kt_M418) (x := 4103) (c := 12) (o := 0) kX13_gather_c8.2.2.1 wf_X13_202 (.inl rfl) ?_
    refine kz_iload_n (M := kt_M418) kX13_gather_c8.2.2.2.1 rfl ?_
    refine kz_iald (M := kt_M418) (c := 12) (o := 0) (k := 31) (a := (E.2.1 4103)) kX13_gather_c8.2.2.2.2.1 ow_12_0_31 oa_12_0_31 ot_0 h (fun h => ?_)
    refine kz_sti_n (M := kt_M418) [(0, .ref (w_adr E.2.1 12 0))] kX13_gather_c8.2.2.2.2.2.1 (Nat.le_of_ble_eq_true rfl) ⟨⟨rfl, rfl, .inl rfl⟩, trivial⟩ rfl ?_
    refine kz_aload_n (M := kt_M418) kX13_gather_c8.2.2.2.2.2.2.1 rfl ?_
    refine kz_gfc (M := kt_M418) (x := 4118) (c := 12) (o := 0) kX13_gather_c8.2.2.2.2.2.2.2.1 wf_X13_223 (.inl rfl) ?_
    refine kz_iload_n (M := kt_M418) kX13_gather_c9.1 rfl ?_
    refine kz_iald (M := kt_M418) (c := 12) (o := 0) (k := 46) (a := (E.2.1 4118)) kX13_gather_c9.2.1 ow_12_0_46 oa_12_0_46 ot_0 h (fun h => ?_)
    refine kz_bi (M := kt_M418) 9 kX13_gather_c9.2.2.1 rfl ?_
    refine kz_icmp_eq (M := kt_M418) kX13_gather_c9.2.2.2.1 (t := 168) rfl h (fun h => ?_) (fun h => ?_)
    · skip
      refine kz_aload_n (M := kt_M418) kX13_gather_c9.2.2.2.2.2.2.1 rfl ?_
      refine kz_gfc (M := kt_M418) (x := 4127) (c := 12) (o := 0) kX13_gather_c9.2.2.2.2.2.2.2.1 wf_X13_251 (.inl rfl) ?_
      refine kz_iload_n (M := kt_M418) kX13_gather_c10.1 rfl ?_
      refine kz_iald (M := kt_M418) (c := 12) (o := 0) (k := 55) (a := (E.2.1 4127)) kX13_gather_c10.2.1 ow_12_0_55 oa_12_0_55 ot_0 h (fun h => ?_)
      refine kz_sti_n (M := kt_M418) [(0, .ref (w_adr E.2.1 12 0)), (2, .int (w_a w 12 0 31 (x1).toNatClampNeg))] kX13_gather_c10.2.2.1 (Nat.le_of_ble_eq_true rfl) ⟨⟨rfl, rfl, .inl rfl⟩, ⟨⟨rfl, rfl, .inr rfl⟩, trivial⟩⟩ rfl ?_
      refine kz_aload_n (M := kt_M418) kX13_gather_c10.2.2.2.1 rfl ?_
      refine kz_gfc (M := kt_M418) (x := 4148) (c := 12) (o := 0) kX13_gather_c10.2.2.2.2.1 wf_X13_284 (.inl rfl) ?_
      refine kz_iload_n (M := kt_M418) kX13_gather_c10.2.2.2.2.2.1 rfl ?_
      refine kz_lald (M := kt_M418) (c := 12) (o := 0) (k := 76) (a := (E.2.1 4148)) kX13_gather_c10.2.2.2.2.2.2.1 ow_12_0_76 oa_12_0_76 ot_3 h (fun h => ?_)
      refine kz_lconst (M := kt_M418) kX13_gather_c10.2.2.2.2.2.2.2.1 ?_
      refine kz_lcmp (M := kt_M418) kX13_gather_c11.1 ?_
      refine kz_if_eq (M := kt_M418) kX13_gather_c11.2.1 (t := 199) rfl h (fun h => ?_) (fun h => ?_)
      · skip
        exact kz_weak [(0, .ref (w_adr E.2.1 12 0))] ⟨rfl, trivial⟩ rfl (zt_X13_gather_p199 hL  h)
      · skip
        refine kz_aload_n (M := kt_M418) kX13_gather_c11.2.2.1 rfl ?_
        refine kz_gfc (M := kt_M418) (x := 4148) (c := 12) (o := 0) kX13_gather_c11.2.2.2.1 wf_X13_284 (.inl rfl) ?_
        refine kz_iload_n (M := kt_M418) kX13_gather_c11.2.2.2.2.1 rfl ?_
        refine kz_lald (M := kt_M418) (c := 12) (o := 0) (k := 76) (a := (E.2.1 4148)) kX13_gather_c11.2.2.2.2.2.1 ow_12_0_76 oa_12_0_76 ot_3 h (fun h => ?_)
        refine kz_ldc2 (M := kt_M418) (x := 1000) kX13_gather_c11.2.2.2.2.2.2.1 (zc_X13_983) ?_
        refine kz_lcmp (M := kt_M418) kX13_gather_c11.2.2.2.2.2.2.2.1 ?_
        refine kz_if_le (M := kt_M418) kX13_gather_c12.1 (t := 201) rfl h (fun h => ?_) (fun h => ?_)
        · skip
          refine kz_aload_n (M := kt_M418) kX13_gather_c12.2.2.2.1 rfl ?_
          refine kz_gfc (M := kt_M418) (x := 4143) (c := 12) (o := 0) kX13_gather_c12.2.2.2.2.1 wf_X13_281 (.inl rfl) ?_
          refine kz_iload_n (M := kt_M418) kX13_gather_c12.2.2.2.2.2.1 rfl ?_
          refine kz_zald (M := kt_M418) (c := 12) (o := 0) (k := 71) (a := (E.2.1 4143)) kX13_gather_c12.2.2.2.2.2.2.1 ow_12_0_71 oa_12_0_71 ot_2 h (fun h => ?_)
          refine kz_if_ne (M := kt_M418) kX13_gather_c12.2.2.2.2.2.2.2.1 (t := 219) rfl h (fun h => ?_) (fun h => ?_)
          · skip
            exact kz_weak [(0, .ref (w_adr E.2.1 12 0))] ⟨rfl, trivial⟩ rfl (zt_X13_gather_p219 hL  h)
          · skip
            refine kz_aload_n (M := kt_M418) kX13_gather_c13.1 rfl ?_
            refine kz_gfi (M := kt_M418) (c := 12) (o := 0) kX13_gather_c13.2.1 wf_X13_985 (.inl rfl) ?_
            refine kz_bi (M := kt_M418) 64 kX13_gather_c13.2.2.1 rfl ?_
            refine kz_icmp_ne (M := kt_M418) kX13_gather_c13.2.2.2.1 (t := 234) rfl h (fun h => ?_) (fun h => ?_)
            · skip
              refine kz_aload_n (M := kt_M418) kX13_gather_c14.2.2.2.2.1 rfl ?_
              refine kz_gfc (M := kt_M418) (x := 4143) (c := 12) (o := 0) kX13_gather_c14.2.2.2.2.2.1 wf_X13_281 (.inl rfl) ?_
              refine kz_iload_n (M := kt_M418) kX13_gather_c14.2.2.2.2.2.2.1 rfl ?_
              refine kz_ic (M := kt_M418) 1 kX13_gather_c14.2.2.2.2.2.2.2.1 rfl ?_
              refine kz_zast (M := kt_M418) (c := 12) (o := 0) (k := 71) (a := (E.2.1 4143)) kX13_gather_c15.1 ow_12_0_71 oa_12_0_71 ot_2 h (fun h => ?_)
              refine kz_aload_n (M := kt_M418) kX13_gather_c15.2.1 rfl ?_
              refine kz_gfc (M := kt_M418) (x := 4166) (c := 12) (o := 0) kX13_gather_c15.2.2.1 wf_X13_313 (.inl rfl) ?_
              refine kz_aload_n (M := kt_M418) kX13_gather_c15.2.2.2.1 rfl ?_
              refine kz_gfiR (M := kt_M418) (c := 12) (o := 0) (w_i w 12 0 93) kX13_gather_c15.2.2.2.2.1 wf_X13_985 (.inl rfl) rd_i_a ?_
              refine kz_iload_n (M := kt_M418) kX13_gather_c15.2.2.2.2.2.1 rfl ?_
              refine kz_iastR (M := kt_M418) (n := w_n w 12 0 94) (c := 12) (o := 0) (k := 94) (a := (E.2.1 4166)) kX13_gather_c15.2.2.2.2.2.2.1 ow_12_0_94 oa_12_0_94 ot_0 rd_n_a h (fun h => ?_)
              refine kz_aload_n (M := kt_M418) kX13_gather_c15.2.2.2.2.2.2.2.1 rfl ?_
              refine kz_dup (M := kt_M418) kX13_gather_c16.1 rfl ?_
              refine kz_gfiR (M := kt_M418) (c := 12) (o := 0) (w_i w 12 0 93) kX13_gather_c16.2.1 wf_X13_985 (.inl rfl) (rd_i_a.trans rd_i_a) ?_
              refine kz_ic (M := kt_M418) 1 kX13_gather_c16.2.2.1 rfl ?_
              refine kz_iadd (M := kt_M418) kX13_gather_c16.2.2.2.1 ?_
              refine kz_pfi (M := kt_M418) (c := 12) (o := 0) kX13_gather_c16.2.2.2.2.1 wq_X13_985 (.inl rfl) ?_
              refine kz_ic (M := kt_M418) 1 kX13_gather_c16.2.2.2.2.2.1 rfl ?_
              exact kz_iretz (M := kt_M418) kX13_gather_c16.2.2.2.2.2.2.1 rfl (by decide) h
            · skip
              exact kz_weak [(0, .ref (w_adr E.2.1 12 0))] ⟨rfl, trivial⟩ rfl (zt_X13_gather_p219 hL  h)
        · skip
          exact kz_weak [(0, .ref (w_adr E.2.1 12 0))] ⟨rfl, trivial⟩ rfl (zt_X13_gather_p199 hL  h)
    · skip
      refine kz_ic (M := kt_M418) 1 kX13_gather_c9.2.2.2.2.1 rfl ?_
      exact kz_iretz (M := kt_M418) kX13_gather_c9.2.2.2.2.2.1 rfl (by decide) h
  · skip
    refine kz_aload_n (M := kt_M418) kX13_gather_c0.2.2.2.2.2.1 rfl ?_
    refine kz_gfc (M := kt_M418) (x := 4101) (c := 12) (o := 0) kX13_gather_c0.2.2.2.2.2.2.1 wf_X13_196 (.inl rfl) ?_
    refine kz_iload_n (M := kt_M418) kX13_gather_c0.2.2.2.2.2.2.2.1 rfl ?_
    refine kz_iald (M := kt_M418) (c := 12) (o := 0) (k := 29) (a := (E.2.1 4101)) kX13_gather_c1.1 ow_12_0_29 oa_12_0_29 ot_0 h (fun h => ?_)
    refine kz_bi (M := kt_M418) 27 kX13_gather_c1.2.1 rfl ?_
    refine kz_icmp_ne (M := kt_M418) kX13_gather_c1.2.2.1 (t := 74) rfl h (fun h => ?_) (fun h => ?_)
    · skip
      exact kz_weak [(0, .ref (w_adr E.2.1 12 0)), (1, .int x1)] ⟨rfl, ⟨rfl, trivial⟩⟩ rfl (zt_X13_gather_p74 hL  h)
    · skip
      refine kz_aload_n (M := kt_M418) kX13_gather_c1.2.2.2.1 rfl ?_
      refine kz_gfc (M := kt_M418) (x := 4098) (c := 12) (o := 0) kX13_gather_c1.2.2.2.2.1 wf_X13_187 (.inl rfl) ?_
      refine kz_iload_n (M := kt_M418) kX13_gather_c1.2.2.2.2.2.1 rfl ?_
      refine kz_iald (M := kt_M418) (c := 12) (o := 0) (k := 26) (a := (E.2.1 4098)) kX13_gather_c1.2.2.2.2.2.2.1 ow_12_0_26 oa_12_0_26 ot_0 h (fun h => ?_)
      refine kz_bi (M := kt_M418) 62 kX13_gather_c1.2.2.2.2.2.2.2.1 rfl ?_
      refine kz_icmp_eq (M := kt_M418) kX13_gather_c2.1 (t := 87) rfl h (fun h => ?_) (fun h => ?_)
      · skip
        exact kz_weak [(0, .ref (w_adr E.2.1 12 0))] ⟨rfl, trivial⟩ rfl (zt_X13_gather_p87 hL  h)
      · skip
        exact kz_weak [(0, .ref (w_adr E.2.1 12 0)), (1, .int x1)] ⟨rfl, ⟨rfl, trivial⟩⟩ rfl (zt_X13_gather_p74 hL  h)
  · skip
    refine kz_aload_n (M := kt_M418) kX13_gather_c3.2.2.2.2.1 rfl ?_
    refine kz_aload_n (M := kt_M418) kX13_gather_c3.2.2.2.2.2.1 rfl ?_
    refine kz_gfc (M := kt_M418) (x := 4100) (c := 12) (o := 0) kX13_gather_c3.2.2.2.2.2.2.1 wf_X13_193 (.inl rfl) ?_
    refine kz_iload_n (M := kt_M418) kX13_gather_c3.2.2.2.2.2.2.2.1 rfl ?_
    refine kz_iald (M := kt_M418) (c := 12) (o := 0) (k := 28) (a := (E.2.1 4100)) kX13_gather_c4.1 ow_12_0_28 oa_12_0_28 ot_0 h (fun h => ?_)
    refine kz_cv1 (M := kt_M418) (c := 12) (o := 0) (As := [.int (w_a w 12 0 28 (x1).toNatClampNeg)]) (rest := []) kX13_gather_c4.2.1 wl_X13_980 wMv_418 rfl (.inl rfl) rfl (Nat.le_trans (Nat.le_of_ble_eq_true rfl) hL) (Nat.le_of_ble_eq_true rfl) (Nat.le_of_ble_eq_true rfl) h (fun v2 w1 hle h => ?_) (fun _ _ _ h => kzx_no rfl h)
    have h := h hle
    refine kz_aload_n (M := kt_M418) kX13_gather_c4.2.2.1 rfl ?_
    refine kz_aload_n (M := kt_M418) kX13_gather_c4.2.2.2.1 rfl ?_
    refine kz_gfc (M := kt_M418) (x := 4102) (c := 12) (o := 0) kX13_gather_c4.2.2.2.2.1 wf_X13_199 (.inl rfl) ?_
    refine kz_iload_n (M := kt_M418) kX13_gather_c4.2.2.2.2.2.1 rfl ?_
    refine kz_iald (M := kt_M418) (c := 12) (o := 0) (k := 30) (a := (E.2.1 4102)) kX13_gather_c4.2.2.2.2.2.2.1 ow_12_0_30 oa_12_0_30 ot_0 h (fun h => ?_)
    refine kz_cv1 (M := kt_M418) (c := 12) (o := 0) (As := [.int (w_a w1 12 0 30 (x1).toNatClampNeg)]) (rest := [.int v2]) kX13_gather_c4.2.2.2.2.2.2.2.1 wl_X13_980 wMv_418 rfl (.inl rfl) rfl (Nat.le_trans (Nat.le_of_ble_eq_true rfl) hL) (Nat.le_of_ble_eq_true rfl) (Nat.le_of_ble_eq_true rfl) h (fun v4 w3 hle h => ?_) (fun _ _ _ h => kzx_no rfl h)
    have h := h hle
    refine kz_iand (M := kt_M418) kX13_gather_c5.1 ?_
    exact kz_iretz (M := kt_M418) kX13_gather_c5.2.1 rfl h.1 h.2
  · skip
    refine kz_ic (M := kt_M418) 1 kX13_gather_c5.2.2.1 rfl ?_
    refine kz_sti_n (M := kt_M418) [(0, .ref (w_adr E.2.1 12 0)), (1, .int x1)] kX13_gather_c5.2.2.2.1 (Nat.le_of_ble_eq_true rfl) ⟨⟨rfl, rfl, .inl rfl⟩, ⟨⟨rfl, rfl, .inr rfl⟩, trivial⟩⟩ rfl ?_
    refine kz_aload_n (M := kt_M418) kX13_gather_c5.2.2.2.2.1 rfl ?_
    refine kz_gfc (M := kt_M418) (x := 4100) (c := 12) (o := 0) kX13_gather_c5.2.2.2.2.2.1 wf_X13_193 (.inl rfl) ?_
    refine kz_iload_n (M := kt_M418) kX13_gather_c5.2.2.2.2.2.2.1 rfl ?_
    refine kz_iald (M := kt_M418) (c := 12) (o := 0) (k := 28) (a := (E.2.1 4100)) kX13_gather_c5.2.2.2.2.2.2.2.1 ow_12_0_28 oa_12_0_28 ot_0 h (fun h => ?_)
    refine kz_sti_n (M := kt_M418) [(0, .ref (w_adr E.2.1 12 0)), (2, .int 1)] kX13_gather_c6.1 (Nat.le_of_ble_eq_true rfl) ⟨⟨rfl, rfl, .inl rfl⟩, ⟨⟨rfl, rfl, .inr rfl⟩, trivial⟩⟩ rfl ?_
    exact kz_weak [(0, .ref (w_adr E.2.1 12 0)), (2, .int 1), (3, .int (w_a w 12 0 28 (x1).toNatClampNeg))] ⟨rfl, ⟨rfl, ⟨rfl, trivial⟩⟩⟩ rfl h
  · skip
    refine kz_ic (M := kt_M418) 1 kX13_gather_c16.2.2.2.2.2.2.2.1 rfl ?_
    exact kz_iretz (M := kt_M418) kX13_gather_c17.1 rfl (by decide) h
def zL_X13_isFree_p2 (E : zE) (L : Nat) (Q : kx_Rs → wS → Prop) (x1 : Int32) (w : wS) : Prop := kzE E L kt_M442 2 [(0, .ref (w_adr E.2.1 12 0)), (1, .int x1)] [] w Q
def zb_X13_isFree_p2 (E : zE) (L : Nat) (Q : kx_Rs → wS → Prop) (x1 : Int32) (w : wS) : Prop := (if w_i w 12 0 93 ≤ x1 then Q (.inl (some (.int 1))) w else (kx_inb x1 (w_n w 12 0 94) = true ∧ (kx_inb (w_a w 12 0 94 (x1).toNatClampNeg) (w_n w 12 0 95) = true ∧ (if w_a w 12 0 95 (w_a w 12 0 94 (x1).toNatClampNeg).toNatClampNeg = 0 then zL_X13_isFree_p2 E L Q (x1 + 1) w else Q (.inl (some (.int 0))) w))))
theorem zt_X13_isFree_p2 {E : zE} {L : Nat} {Q : kx_Rs → wS → Prop} {x1 : Int32} {w : wS} (hL : 19 ≤ L) (h : zb_X13_isFree_p2 E L Q x1 w) : kzE E L kt_M442 2 [(0, .ref (w_adr E.2.1 12 0)), (1, .int x1)] [] w Q := by
  unfold zb_X13_isFree_p2 at h
  refine kz_iload_n (M := kt_M442) kX13_isFree_c0.2.2.1 rfl ?_
  refine kz_aload_n (M := kt_M442) kX13_isFree_c0.2.2.2.1 rfl ?_
  refine kz_gfi (M := kt_M442) (c := 12) (o := 0) kX13_isFree_c0.2.2.2.2.1 wf_X13_985 (.inl rfl) ?_
  refine kz_icmp_ge (M := kt_M442) kX13_isFree_c0.2.2.2.2.2.1 (t := 32) rfl h (fun h => ?_) (fun h => ?_)
  · skip
    refine kz_ic (M := kt_M442) 1 kX13_isFree_c2.2.2.1 rfl ?_
    exact kz_iretz (M := kt_M442) kX13_isFree_c2.2.2.2.1 rfl (by decide) h
  · skip
    refine kz_aload_n (M := kt_M442) kX13_isFree_c0.2.2.2.2.2.2.1 rfl ?_
    refine kz_gfc (M := kt_M442) (x := 4167) (c := 12) (o := 0) kX13_isFree_c0.2.2.2.2.2.2.2.1 wf_X13_316 (.inl rfl) ?_
    refine kz_aload_n (M := kt_M442) kX13_isFree_c1.1 rfl ?_
    refine kz_gfc (M := kt_M442) (x := 4166) (c := 12) (o := 0) kX13_isFree_c1.2.1 wf_X13_313 (.inl rfl) ?_
    refine kz_iload_n (M := kt_M442) kX13_isFree_c1.2.2.1 rfl ?_
    refine kz_iald (M := kt_M442) (c := 12) (o := 0) (k := 94) (a := (E.2.1 4166)) kX13_isFree_c1.2.2.2.1 ow_12_0_94 oa_12_0_94 ot_0 h (fun h => ?_)
    refine kz_zald (M := kt_M442) (c := 12) (o := 0) (k := 95) (a := (E.2.1 4167)) kX13_isFree_c1.2.2.2.2.1 ow_12_0_95 oa_12_0_95 ot_2 h (fun h => ?_)
    refine kz_if_eq (M := kt_M442) kX13_isFree_c1.2.2.2.2.2.1 (t := 26) rfl h (fun h => ?_) (fun h => ?_)
    · skip
      refine kz_inc (M := kt_M442) [(0, .ref (w_adr E.2.1 12 0))] kX13_isFree_c2.1 rfl (Nat.le_of_ble_eq_true rfl) ⟨⟨rfl, rfl, .inr rfl⟩, trivial⟩ rfl ?_
      refine kz_goto (M := kt_M442) kX13_isFree_c2.2.1 (t := 2) rfl ?_
      exact kz_weak [(0, .ref (w_adr E.2.1 12 0)), (1, .int (x1 + 1))] ⟨rfl, ⟨rfl, trivial⟩⟩ rfl h
    · skip
      refine kz_ic (M := kt_M442) 0 kX13_isFree_c1.2.2.2.2.2.2.1 rfl ?_
      exact kz_iretz (M := kt_M442) kX13_isFree_c1.2.2.2.2.2.2.2.1 rfl (by decide) h
def zb_X13_isFree_p0 (E : zE) (L : Nat) (Q : kx_Rs → wS → Prop) (w : wS) : Prop := zL_X13_isFree_p2 E L Q 0 w
theorem zt_X13_isFree_p0 {E : zE} {L : Nat} {Q : kx_Rs → wS → Prop} {w : wS} (hL : 19 ≤ L) (h : zb_X13_isFree_p0 E L Q  w) : kzE E L kt_M442 0 [(0, .ref (w_adr E.2.1 12 0))] [] w Q := by
  unfold zb_X13_isFree_p0 at h
  refine kz_ic (M := kt_M442) 0 kX13_isFree_c0.1 rfl ?_
  refine kz_sti_n (M := kt_M442) [(0, .ref (w_adr E.2.1 12 0))] kX13_isFree_c0.2.1 (Nat.le_of_ble_eq_true rfl) ⟨⟨rfl, rfl, .inr rfl⟩, trivial⟩ rfl ?_
  exact kz_weak [(0, .ref (w_adr E.2.1 12 0)), (1, .int 0)] ⟨rfl, ⟨rfl, trivial⟩⟩ rfl h
def zL_X13_nextTried_p2 (E : zE) (L : Nat) (Q : kx_Rs → wS → Prop) (x1 : Int32) (w : wS) : Prop := kzE E L kt_M493 2 [(0, .ref (w_adr E.2.1 12 0)), (1, .int x1)] [] w Q
def zb_X13_nextTried_p84 (E : zE) (L : Nat) (Q : kx_Rs → wS → Prop) (x1 : Int32) (w : wS) : Prop := zL_X13_nextTried_p2 E L Q (x1 + 1) w
theorem zt_X13_nextTried_p84 {E : zE} {L : Nat} {Q : kx_Rs → wS → Prop} {x1 : Int32} {w : wS} (hL : 19 ≤ L) (h : zb_X13_nextTried_p84 E L Q x1 w) : kzE E L kt_M493 84 [(0, .ref (w_adr E.2.1 12 0)), (1, .int x1)] [] w Q := by
  unfold zb_X13_nextTried_p84 at h
  refine kz_inc (M := kt_M493) [(0, .ref (w_adr E.2.1 12 0))] kX13_nextTried_c7.1 rfl (Nat.le_of_ble_eq_true rfl) ⟨⟨rfl, rfl, .inr rfl⟩, trivial⟩ rfl ?_
  refine kz_goto (M := kt_M493) kX13_nextTried_c7.2.1 (t := 2) rfl ?_
  exact kz_weak [(0, .ref (w_adr E.2.1 12 0)), (1, .int (x1 + 1))] ⟨rfl, ⟨rfl, trivial⟩⟩ rfl h
def zb_X13_nextTried_p2 (E : zE) (L : Nat) (Q : kx_Rs → wS → Prop) (x1 : Int32) (w : wS) : Prop := (if w_i w 12 0 93 ≤ x1 then Q (.inl (some (.int 0))) w else (kx_inb x1 (w_n w 12 0 94) = true ∧ (kx_inb (w_a w 12 0 94 (x1).toNatClampNeg) (w_n w 12 0 95) = true ∧ (if w_a w 12 0 95 (w_a w 12 0 94 (x1).toNatClampNeg).toNatClampNeg = 0 then (kx_inb (w_a w 12 0 94 (x1).toNatClampNeg) (w_n w 12 0 55) = true ∧ (kx_inb (w_a w 12 0 94 (x1).toNatClampNeg) (w_n w 12 0 70) = true ∧ (kx_inb (w_a w 12 0 55 (w_a w 12 0 94 (x1).toNatClampNeg).toNatClampNeg) (w_n w 12 0 77) = true ∧ (kx_inb (w_a w 12 0 55 (w_a w 12 0 94 (x1).toNatClampNeg).toNatClampNeg) (w_n w 12 0 78) = true ∧ (if w_a w 12 0 78 (w_a w 12 0 55 (w_a w 12 0 94 (x1).toNatClampNeg).toNatClampNeg).toNatClampNeg ≤ (((w_a w 12 0 70 (w_a w 12 0 94 (x1).toNatClampNeg).toNatClampNeg) - (w_a w 12 0 77 (w_a w 12 0 55 (w_a w 12 0 94 (x1).toNatClampNeg).toNatClampNeg).toNatClampNeg)) + 1) then (kx_inb (w_a w 12 0 55 (w_a w 12 0 94 (x1).toNatClampNeg).toNatClampNeg) (w_n w 12 0 77) = true ∧ (kx_inb (w_a w 12 0 94 (x1).toNatClampNeg) (w_n w 12 0 70) = true ∧ zb_X13_nextTried_p84 E L Q x1 (ws_a w 12 0 70 (w_a w 12 0 94 (x1).toNatClampNeg).toNatClampNeg (w_a w 12 0 77 (w_a w 12 0 55 (w_a w 12 0 94 (x1).toNatClampNeg).toNatClampNeg).toNatClampNeg)))) else (kx_inb (w_a w 12 0 94 (x1).toNatClampNeg) (w_n w 12 0 70) = true ∧ (kx_inb (w_a w 12 0 94 (x1).toNatClampNeg) (w_n w 12 0 70) = true ∧ Q (.inl (some (.int 1))) (ws_a w 12 0 70 (w_a w 12 0 94 (x1).toNatClampNeg).toNatClampNeg ((w_a w 12 0 70 (w_a w 12 0 94 (x1).toNatClampNeg).toNatClampNeg) + 1))))))))) else zb_X13_nextTried_p84 E L Q x1 w))))
theorem zt_X13_nextTried_p2 {E : zE} {L : Nat} {Q : kx_Rs → wS → Prop} {x1 : Int32} {w : wS} (hL : 19 ≤ L) (h : zb_X13_nextTried_p2 E L Q x1 w) : kzE E L kt_M493 2 [(0, .ref (w_adr E.2.1 12 0)), (1, .int x1)] [] w Q := by
  unfold zb_X13_nextTried_p2 at h
  refine kz_iload_n (M := kt_M493) kX13_nextTried_c0.2.2.1 rfl ?_
  refine kz_aload_n (M := kt_M493) kX13_nextTried_c0.2.2.2.1 rfl ?_
  refine kz_gfi (M := kt_M493) (c := 12) (o := 0) kX13_nextTried_c0.2.2.2.2.1 wf_X13_985 (.inl rfl) ?_
  refine kz_icmp_ge (M := kt_M493) kX13_nextTried_c0.2.2.2.2.2.1 (t := 90) rfl h (fun h => ?_) (fun h => ?_)
  · skip
    refine kz_ic (M := kt_M493) 0 kX13_nextTried_c7.2.2.1 rfl ?_
    exact kz_iretz (M := kt_M493) kX13_nextTried_c7.2.2.2.1 rfl (by decide) h
  · skip
    refine kz_aload_n (M := kt_M493) kX13_nextTried_c0.2.2.2.2.2.2.1 rfl ?_
    refine kz_gfc (M := kt_M493) (x := 4166) (c := 12) (o := 0) kX13_nextTried_c0.2.2.2.2.2.2.2.1 wf_X13_313 (.inl rfl) ?_
    refine kz_iload_n (M := kt_M493) kX13_nextTried_c1.1 rfl ?_
    refine kz_iald (M := kt_M493) (c := 12) (o := 0) (k := 94) (a := (E.2.1 4166)) kX13_nextTried_c1.2.1 ow_12_0_94 oa_12_0_94 ot_0 h (fun h => ?_)
    refine kz_sti_n (M := kt_M493) [(0, .ref (w_adr E.2.1 12 0)), (1, .int x1)] kX13_nextTried_c1.2.2.1 (Nat.le_of_ble_eq_true rfl) ⟨⟨rfl, rfl, .inl rfl⟩, ⟨⟨rfl, rfl, .inr rfl⟩, trivial⟩⟩ rfl ?_
    refine kz_aload_n (M := kt_M493) kX13_nextTried_c1.2.2.2.1 rfl ?_
    refine kz_gfc (M := kt_M493) (x := 4167) (c := 12) (o := 0) kX13_nextTried_c1.2.2.2.2.1 wf_X13_316 (.inl rfl) ?_
    refine kz_iload_n (M := kt_M493) kX13_nextTried_c1.2.2.2.2.2.1 rfl ?_
    refine kz_zald (M := kt_M493) (c := 12) (o := 0) (k := 95) (a := (E.2.1 4167)) kX13_nextTried_c1.2.2.2.2.2.2.1 ow_12_0_95 oa_12_0_95 ot_2 h (fun h => ?_)
    refine kz_if_eq (M := kt_M493) kX13_nextTried_c1.2.2.2.2.2.2.2.1 (t := 29) rfl h (fun h => ?_) (fun h => ?_)
    · skip
      refine kz_aload_n (M := kt_M493) kX13_nextTried_c2.2.1 rfl ?_
      refine kz_gfc (M := kt_M493) (x := 4127) (c := 12) (o := 0) kX13_nextTried_c2.2.2.1 wf_X13_251 (.inl rfl) ?_
      refine kz_iload_n (M := kt_M493) kX13_nextTried_c2.2.2.2.1 rfl ?_
      refine kz_iald (M := kt_M493) (c := 12) (o := 0) (k := 55) (a := (E.2.1 4127)) kX13_nextTried_c2.2.2.2.2.1 ow_12_0_55 oa_12_0_55 ot_0 h (fun h => ?_)
      refine kz_sti_n (M := kt_M493) [(0, .ref (w_adr E.2.1 12 0)), (1, .int x1), (2, .int (w_a w 12 0 94 (x1).toNatClampNeg))] kX13_nextTried_c2.2.2.2.2.2.1 (Nat.le_of_ble_eq_true rfl) ⟨⟨rfl, rfl, .inl rfl⟩, ⟨⟨rfl, rfl, .inl rfl⟩, ⟨⟨rfl, rfl, .inr rfl⟩, trivial⟩⟩⟩ rfl ?_
      refine kz_aload_n (M := kt_M493) kX13_nextTried_c2.2.2.2.2.2.2.1 rfl ?_
      refine kz_gfc (M := kt_M493) (x := 4142) (c := 12) (o := 0) kX13_nextTried_c2.2.2.2.2.2.2.2.1 wf_X13_278 (.inl rfl) ?_
      refine kz_iload_n (M := kt_M493) kX13_nextTried_c3.1 rfl ?_
      refine kz_iald (M := kt_M493) (c := 12) (o := 0) (k := 70) (a := (E.2.1 4142)) kX13_nextTried_c3.2.1 ow_12_0_70 oa_12_0_70 ot_0 h (fun h => ?_)
      refine kz_aload_n (M := kt_M493) kX13_nextTried_c3.2.2.1 rfl ?_
      refine kz_gfc (M := kt_M493) (x := 4149) (c := 12) (o := 0) kX13_nextTried_c3.2.2.2.1 wf_X13_288 (.inl rfl) ?_
      refine kz_iload_n (M := kt_M493) kX13_nextTried_c3.2.2.2.2.1 rfl ?_
      refine kz_iald (M := kt_M493) (c := 12) (o := 0) (k := 77) (a := (E.2.1 4149)) kX13_nextTried_c3.2.2.2.2.2.1 ow_12_0_77 oa_12_0_77 ot_0 h (fun h => ?_)
      refine kz_isub (M := kt_M493) kX13_nextTried_c3.2.2.2.2.2.2.1 ?_
      refine kz_ic (M := kt_M493) 1 kX13_nextTried_c3.2.2.2.2.2.2.2.1 rfl ?_
      refine kz_iadd (M := kt_M493) kX13_nextTried_c4.1 ?_
      refine kz_aload_n (M := kt_M493) kX13_nextTried_c4.2.1 rfl ?_
      refine kz_gfc (M := kt_M493) (x := 4150) (c := 12) (o := 0) kX13_nextTried_c4.2.2.1 wf_X13_291 (.inl rfl) ?_
      refine kz_iload_n (M := kt_M493) kX13_nextTried_c4.2.2.2.1 rfl ?_
      refine kz_iald (M := kt_M493) (c := 12) (o := 0) (k := 78) (a := (E.2.1 4150)) kX13_nextTried_c4.2.2.2.2.1 ow_12_0_78 oa_12_0_78 ot_0 h (fun h => ?_)
      refine kz_icmp_ge (M := kt_M493) kX13_nextTried_c4.2.2.2.2.2.1 (t := 72) rfl h (fun h => ?_) (fun h => ?_)
      · skip
        refine kz_aload_n (M := kt_M493) kX13_nextTried_c6.1 rfl ?_
        refine kz_gfc (M := kt_M493) (x := 4142) (c := 12) (o := 0) kX13_nextTried_c6.2.1 wf_X13_278 (.inl rfl) ?_
        refine kz_iload_n (M := kt_M493) kX13_nextTried_c6.2.2.1 rfl ?_
        refine kz_aload_n (M := kt_M493) kX13_nextTried_c6.2.2.2.1 rfl ?_
        refine kz_gfc (M := kt_M493) (x := 4149) (c := 12) (o := 0) kX13_nextTried_c6.2.2.2.2.1 wf_X13_288 (.inl rfl) ?_
        refine kz_iload_n (M := kt_M493) kX13_nextTried_c6.2.2.2.2.2.1 rfl ?_
        refine kz_iald (M := kt_M493) (c := 12) (o := 0) (k := 77) (a := (E.2.1 4149)) kX13_nextTried_c6.2.2.2.2.2.2.1 ow_12_0_77 oa_12_0_77 ot_0 h (fun h => ?_)
        refine kz_iast (M := kt_M493) (c := 12) (o := 0) (k := 70) (a := (E.2.1 4142)) kX13_nextTried_c6.2.2.2.2.2.2.2.1 ow_12_0_70 oa_12_0_70 ot_0 h (fun h => ?_)
        exact kz_weak [(0, .ref (w_adr E.2.1 12 0)), (1, .int x1)] ⟨rfl, ⟨rfl, trivial⟩⟩ rfl (zt_X13_nextTried_p84 hL  h)
      · skip
        refine kz_aload_n (M := kt_M493) kX13_nextTried_c4.2.2.2.2.2.2.1 rfl ?_
        refine kz_gfc (M := kt_M493) (x := 4142) (c := 12) (o := 0) kX13_nextTried_c4.2.2.2.2.2.2.2.1 wf_X13_278 (.inl rfl) ?_
        refine kz_iload_n (M := kt_M493) kX13_nextTried_c5.1 rfl ?_
        refine kz_dup2 (M := kt_M493) kX13_nextTried_c5.2.1 ⟨rfl, rfl⟩ ?_
        refine kz_iald (M := kt_M493) (c := 12) (o := 0) (k := 70) (a := (E.2.1 4142)) kX13_nextTried_c5.2.2.1 ow_12_0_70 oa_12_0_70 ot_0 h (fun h => ?_)
        refine kz_ic (M := kt_M493) 1 kX13_nextTried_c5.2.2.2.1 rfl ?_
        refine kz_iadd (M := kt_M493) kX13_nextTried_c5.2.2.2.2.1 ?_
        refine kz_iast (M := kt_M493) (c := 12) (o := 0) (k := 70) (a := (E.2.1 4142)) kX13_nextTried_c5.2.2.2.2.2.1 ow_12_0_70 oa_12_0_70 ot_0 h (fun h => ?_)
        refine kz_ic (M := kt_M493) 1 kX13_nextTried_c5.2.2.2.2.2.2.1 rfl ?_
        exact kz_iretz (M := kt_M493) kX13_nextTried_c5.2.2.2.2.2.2.2.1 rfl (by decide) h
    · skip
      refine kz_goto (M := kt_M493) kX13_nextTried_c2.1 (t := 84) rfl ?_
      exact kz_weak [(0, .ref (w_adr E.2.1 12 0)), (1, .int x1)] ⟨rfl, ⟨rfl, trivial⟩⟩ rfl (zt_X13_nextTried_p84 hL  h)
def zb_X13_nextTried_p0 (E : zE) (L : Nat) (Q : kx_Rs → wS → Prop) (w : wS) : Prop := zL_X13_nextTried_p2 E L Q 0 w
theorem zt_X13_nextTried_p0 {E : zE} {L : Nat} {Q : kx_Rs → wS → Prop} {w : wS} (hL : 19 ≤ L) (h : zb_X13_nextTried_p0 E L Q  w) : kzE E L kt_M493 0 [(0, .ref (w_adr E.2.1 12 0))] [] w Q := by
  unfold zb_X13_nextTried_p0 at h
  refine kz_ic (M := kt_M493) 0 kX13_nextTried_c0.1 rfl ?_
  refine kz_sti_n (M := kt_M493) [(0, .ref (w_adr E.2.1 12 0))] kX13_nextTried_c0.2.1 (Nat.le_of_ble_eq_true rfl) ⟨⟨rfl, rfl, .inr rfl⟩, trivial⟩ rfl ?_
  exact kz_weak [(0, .ref (w_adr E.2.1 12 0)), (1, .int 0)] ⟨rfl, ⟨rfl, trivial⟩⟩ rfl h
def zb_X13_compare_p108 (E : zE) (L : Nat) (Q : kx_Rs → wS → Prop) (w : wS) : Prop := Q (.inl none) w
theorem zt_X13_compare_p108 {E : zE} {L : Nat} {Q : kx_Rs → wS → Prop} {w : wS} (hL : 22 ≤ L) (h : zb_X13_compare_p108 E L Q  w) : kzE E L kt_M376 108 [(0, .ref (w_adr E.2.1 12 0))] [] w Q := by
  unfold zb_X13_compare_p108 at h
  exact kz_ret (M := kt_M376) kX13_compare_c7.2.2.2.2.2.2.1 rfl h
def zb_X13_compare_p86 (E : zE) (L : Nat) (Q : kx_Rs → wS → Prop) (x1 : Int32) (x2 : Int32) (x3 : Int32) (w : wS) : Prop := (if (x1 &&& 4) = 0 then zb_X13_compare_p108 E L Q w else zw E (L - 22) kt_M430 [.ref (w_adr E.2.1 12 0), .int x3, .int 2] w (wk1 (fun v2 w1 => wle w w1 → (if v2 = 0 then zb_X13_compare_p108 E L Q w1 else zw E (L - 22) kt_M560 [.ref (w_adr E.2.1 12 0), .int 15, .int x2] w1 (wk0 (fun w3 => wle w1 w3 → zb_X13_compare_p108 E L Q w3) (fun e w => Q (.inr e) w)))) (fun e w => Q (.inr e) w)))
theorem zt_X13_compare_p86 {E : zE} {L : Nat} {Q : kx_Rs → wS → Prop} {x1 : Int32} {x2 : Int32} {x3 : Int32} {w : wS} (hL : 22 ≤ L) (h : zb_X13_compare_p86 E L Q x1 x2 x3 w) : kzE E L kt_M376 86 [(0, .ref (w_adr E.2.1 12 0)), (1, .int x1), (2, .int x2), (3, .int x3)] [] w Q := by
  unfold zb_X13_compare_p86 at h
  refine kz_iload_n (M := kt_M376) kX13_compare_c6.2.1 rfl ?_
  refine kz_ic (M := kt_M376) 4 kX13_compare_c6.2.2.1 rfl ?_
  refine kz_iand (M := kt_M376) kX13_compare_c6.2.2.2.1 ?_
  refine kz_if_eq (M := kt_M376) kX13_compare_c6.2.2.2.2.1 (t := 108) rfl h (fun h => ?_) (fun h => ?_)
  · skip
    exact kz_weak [(0, .ref (w_adr E.2.1 12 0))] ⟨rfl, trivial⟩ rfl (zt_X13_compare_p108 hL  h)
  · skip
    refine kz_aload_n (M := kt_M376) kX13_compare_c6.2.2.2.2.2.1 rfl ?_
    refine kz_iload_n (M := kt_M376) kX13_compare_c6.2.2.2.2.2.2.1 rfl ?_
    refine kz_ic (M := kt_M376) 2 kX13_compare_c6.2.2.2.2.2.2.2.1 rfl ?_
    refine kz_cv1 (M := kt_M376) (c := 12) (o := 0) (As := [.int x3, .int 2]) (rest := []) kX13_compare_c7.1 wl_X13_1096 wMv_430 rfl (.inl rfl) rfl (Nat.le_trans (Nat.le_of_ble_eq_true rfl) hL) (Nat.le_of_ble_eq_true rfl) (Nat.le_of_ble_eq_true rfl) h (fun v2 w1 hle h => ?_) (fun _ _ _ h => kzx_no rfl h)
    have h := h hle
    refine kz_if_eq (M := kt_M376) kX13_compare_c7.2.1 (t := 108) rfl h (fun h => ?_) (fun h => ?_)
    · skip
      exact kz_weak [(0, .ref (w_adr E.2.1 12 0))] ⟨rfl, trivial⟩ rfl (zt_X13_compare_p108 hL  h)
    · skip
      refine kz_aload_n (M := kt_M376) kX13_compare_c7.2.2.1 rfl ?_
      refine kz_bi (M := kt_M376) 15 kX13_compare_c7.2.2.2.1 rfl ?_
      refine kz_iload_n (M := kt_M376) kX13_compare_c7.2.2.2.2.1 rfl ?_
      refine kz_cv0 (M := kt_M376) (c := 12) (o := 0) (As := [.int 15, .int x2]) (rest := []) kX13_compare_c7.2.2.2.2.2.1 wl_X13_734 wMv_560 rfl (.inl rfl) rfl (Nat.le_trans (Nat.le_of_ble_eq_true rfl) hL) (Nat.le_of_ble_eq_true rfl) (Nat.le_of_ble_eq_true rfl) h (fun w3 hle h => ?_) (fun _ _ _ h => kzx_no rfl h)
      have h := h hle
      exact kz_weak [(0, .ref (w_adr E.2.1 12 0))] ⟨rfl, trivial⟩ rfl (zt_X13_compare_p108 hL  h)
def zb_X13_compare_p63 (E : zE) (L : Nat) (Q : kx_Rs → wS → Prop) (x1 : Int32) (x2 : Int32) (x3 : Int32) (w : wS) : Prop := (if (x1 &&& 8) = 0 then zb_X13_compare_p86 E L Q x1 x2 x3 w else zw E (L - 22) kt_M430 [.ref (w_adr E.2.1 12 0), .int x3, .int 3] w (wk1 (fun v2 w1 => wle w w1 → (if v2 = 0 then zb_X13_compare_p86 E L Q x1 x2 x3 w1 else zw E (L - 22) kt_M560 [.ref (w_adr E.2.1 12 0), .int 14, .int x2] w1 (wk0 (fun w3 => wle w1 w3 → zb_X13_compare_p86 E L Q x1 x2 x3 w3) (fun e w => Q (.inr e) w)))) (fun e w => Q (.inr e) w)))
theorem zt_X13_compare_p63 {E : zE} {L : Nat} {Q : kx_Rs → wS → Prop} {x1 : Int32} {x2 : Int32} {x3 : Int32} {w : wS} (hL : 22 ≤ L) (h : zb_X13_compare_p63 E L Q x1 x2 x3 w) : kzE E L kt_M376 63 [(0, .ref (w_adr E.2.1 12 0)), (1, .int x1), (2, .int x2), (3, .int x3)] [] w Q := by
  unfold zb_X13_compare_p63 at h
  refine kz_iload_n (M := kt_M376) kX13_compare_c4.2.2.2.2.1 rfl ?_
  refine kz_bi (M := kt_M376) 8 kX13_compare_c4.2.2.2.2.2.1 rfl ?_
  refine kz_iand (M := kt_M376) kX13_compare_c4.2.2.2.2.2.2.1 ?_
  refine kz_if_eq (M := kt_M376) kX13_compare_c4.2.2.2.2.2.2.2.1 (t := 86) rfl h (fun h => ?_) (fun h => ?_)
  · skip
    exact kz_weak [(0, .ref (w_adr E.2.1 12 0)), (1, .int x1), (2, .int x2), (3, .int x3)] ⟨rfl, ⟨rfl, ⟨rfl, ⟨rfl, trivial⟩⟩⟩⟩ rfl (zt_X13_compare_p86 hL  h)
  · skip
    refine kz_aload_n (M := kt_M376) kX13_compare_c5.1 rfl ?_
    refine kz_iload_n (M := kt_M376) kX13_compare_c5.2.1 rfl ?_
    refine kz_ic (M := kt_M376) 3 kX13_compare_c5.2.2.1 rfl ?_
    refine kz_cv1 (M := kt_M376) (c := 12) (o := 0) (As := [.int x3, .int 3]) (rest := []) kX13_compare_c5.2.2.2.1 wl_X13_1096 wMv_430 rfl (.inl rfl) rfl (Nat.le_trans (Nat.le_of_ble_eq_true rfl) hL) (Nat.le_of_ble_eq_true rfl) (Nat.le_of_ble_eq_true rfl) h (fun v2 w1 hle h => ?_) (fun _ _ _ h => kzx_no rfl h)
    have h := h hle
    refine kz_if_eq (M := kt_M376) kX13_compare_c5.2.2.2.2.1 (t := 86) rfl h (fun h => ?_) (fun h => ?_)
    · skip
      exact kz_weak [(0, .ref (w_adr E.2.1 12 0)), (1, .int x1), (2, .int x2), (3, .int x3)] ⟨rfl, ⟨rfl, ⟨rfl, ⟨rfl, trivial⟩⟩⟩⟩ rfl (zt_X13_compare_p86 hL  h)
    · skip
      refine kz_aload_n (M := kt_M376) kX13_compare_c5.2.2.2.2.2.1 rfl ?_
      refine kz_bi (M := kt_M376) 14 kX13_compare_c5.2.2.2.2.2.2.1 rfl ?_
      refine kz_iload_n (M := kt_M376) kX13_compare_c5.2.2.2.2.2.2.2.1 rfl ?_
      refine kz_cv0 (M := kt_M376) (c := 12) (o := 0) (As := [.int 14, .int x2]) (rest := []) kX13_compare_c6.1 wl_X13_734 wMv_560 rfl (.inl rfl) rfl (Nat.le_trans (Nat.le_of_ble_eq_true rfl) hL) (Nat.le_of_ble_eq_true rfl) (Nat.le_of_ble_eq_true rfl) h (fun w3 hle h => ?_) (fun _ _ _ h => kzx_no rfl h)
      have h := h hle
      exact kz_weak [(0, .ref (w_adr E.2.1 12 0)), (1, .int x1), (2, .int x2), (3, .int x3)] ⟨rfl, ⟨rfl, ⟨rfl, ⟨rfl, trivial⟩⟩⟩⟩ rfl (zt_X13_compare_p86 hL  h)
def zb_X13_compare_p56 (E : zE) (L : Nat) (Q : kx_Rs → wS → Prop) (x1 : Int32) (x2 : Int32) (x3 : Int32) (w : wS) : Prop := zw E (L - 22) kt_M560 [.ref (w_adr E.2.1 12 0), .int 13, .int x2] w (wk0 (fun w1 => wle w w1 → zb_X13_compare_p63 E L Q x1 x2 x3 w1) (fun e w => Q (.inr e) w))
theorem zt_X13_compare_p56 {E : zE} {L : Nat} {Q : kx_Rs → wS → Prop} {x1 : Int32} {x2 : Int32} {x3 : Int32} {w : wS} (hL : 22 ≤ L) (h : zb_X13_compare_p56 E L Q x1 x2 x3 w) : kzE E L kt_M376 56 [(0, .ref (w_adr E.2.1 12 0)), (1, .int x1), (2, .int x2), (3, .int x3)] [] w Q := by
  unfold zb_X13_compare_p56 at h
  refine kz_aload_n (M := kt_M376) kX13_compare_c4.1 rfl ?_
  refine kz_bi (M := kt_M376) 13 kX13_compare_c4.2.1 rfl ?_
  refine kz_iload_n (M := kt_M376) kX13_compare_c4.2.2.1 rfl ?_
  refine kz_cv0 (M := kt_M376) (c := 12) (o := 0) (As := [.int 13, .int x2]) (rest := []) kX13_compare_c4.2.2.2.1 wl_X13_734 wMv_560 rfl (.inl rfl) rfl (Nat.le_trans (Nat.le_of_ble_eq_true rfl) hL) (Nat.le_of_ble_eq_true rfl) (Nat.le_of_ble_eq_true rfl) h (fun w1 hle h => ?_) (fun _ _ _ h => kzx_no rfl h)
  have h := h hle
  exact kz_weak [(0, .ref (w_adr E.2.1 12 0)), (1, .int x1), (2, .int x2), (3, .int x3)] ⟨rfl, ⟨rfl, ⟨rfl, ⟨rfl, trivial⟩⟩⟩⟩ rfl (zt_X13_compare_p63 hL  h)
def zb_X13_compare_p34 (E : zE) (L : Nat) (Q : kx_Rs → wS → Prop) (x1 : Int32) (x2 : Int32) (x3 : Int32) (y0 : Int32) (w : wS) : Prop := (if ¬ y0 = 0 then zb_X13_compare_p56 E L Q x1 x2 x3 w else (if (x1 &&& 2) = 0 then zb_X13_compare_p63 E L Q x1 x2 x3 w else zw E (L - 22) kt_M430 [.ref (w_adr E.2.1 12 0), .int x3, .int 0] w (wk1 (fun v2 w1 => wle w w1 → (if v2 = 0 then zb_X13_compare_p63 E L Q x1 x2 x3 w1 else zb_X13_compare_p56 E L Q x1 x2 x3 w1)) (fun e w => Q (.inr e) w))))
theorem zt_X13_compare_p34 {E : zE} {L : Nat} {Q : kx_Rs → wS → Prop} {x1 : Int32} {x2 : Int32} {x3 : Int32} {y0 : Int32} {w : wS} (hL : 22 ≤ L) (h : zb_X13_compare_p34 E L Q x1 x2 x3 y0 w) : kzE E L kt_M376 34 [(0, .ref (w_adr E.2.1 12 0)), (1, .int x1), (2, .int x2), (3, .int x3)] [.int y0] w Q := by
  unfold zb_X13_compare_p34 at h
  refine kz_sti (M := kt_M376) [(0, .ref (w_adr E.2.1 12 0)), (1, .int x1), (2, .int x2), (3, .int x3)] kX13_compare_c2.2.2.2.2.1 (Nat.le_of_ble_eq_true rfl) ⟨⟨rfl, rfl, .inl rfl⟩, ⟨⟨rfl, rfl, .inl rfl⟩, ⟨⟨rfl, rfl, .inl rfl⟩, ⟨⟨rfl, rfl, .inr rfl⟩, trivial⟩⟩⟩⟩ rfl ?_
  refine kz_iload (M := kt_M376) kX13_compare_c2.2.2.2.2.2.1 rfl ?_
  refine kz_if_ne (M := kt_M376) kX13_compare_c2.2.2.2.2.2.2.1 (t := 56) rfl h (fun h => ?_) (fun h => ?_)
  · skip
    exact kz_weak [(0, .ref (w_adr E.2.1 12 0)), (1, .int x1), (2, .int x2), (3, .int x3)] ⟨rfl, ⟨rfl, ⟨rfl, ⟨rfl, trivial⟩⟩⟩⟩ rfl (zt_X13_compare_p56 hL  h)
  · skip
    refine kz_iload_n (M := kt_M376) kX13_compare_c2.2.2.2.2.2.2.2.1 rfl ?_
    refine kz_ic (M := kt_M376) 2 kX13_compare_c3.1 rfl ?_
    refine kz_iand (M := kt_M376) kX13_compare_c3.2.1 ?_
    refine kz_if_eq (M := kt_M376) kX13_compare_c3.2.2.1 (t := 63) rfl h (fun h => ?_) (fun h => ?_)
    · skip
      exact kz_weak [(0, .ref (w_adr E.2.1 12 0)), (1, .int x1), (2, .int x2), (3, .int x3)] ⟨rfl, ⟨rfl, ⟨rfl, ⟨rfl, trivial⟩⟩⟩⟩ rfl (zt_X13_compare_p63 hL  h)
    · skip
      refine kz_aload_n (M := kt_M376) kX13_compare_c3.2.2.2.1 rfl ?_
      refine kz_iload_n (M := kt_M376) kX13_compare_c3.2.2.2.2.1 rfl ?_
      refine kz_ic (M := kt_M376) 0 kX13_compare_c3.2.2.2.2.2.1 rfl ?_
      refine kz_cv1 (M := kt_M376) (c := 12) (o := 0) (As := [.int x3, .int 0]) (rest := []) kX13_compare_c3.2.2.2.2.2.2.1 wl_X13_1096 wMv_430 rfl (.inl rfl) rfl (Nat.le_trans (Nat.le_of_ble_eq_true rfl) hL) (Nat.le_of_ble_eq_true rfl) (Nat.le_of_ble_eq_true rfl) h (fun v2 w1 hle h => ?_) (fun _ _ _ h => kzx_no rfl h)
      have h := h hle
      refine kz_if_eq (M := kt_M376) kX13_compare_c3.2.2.2.2.2.2.2.1 (t := 63) rfl h (fun h => ?_) (fun h => ?_)
      · skip
        exact kz_weak [(0, .ref (w_adr E.2.1 12 0)), (1, .int x1), (2, .int x2), (3, .int x3)] ⟨rfl, ⟨rfl, ⟨rfl, ⟨rfl, trivial⟩⟩⟩⟩ rfl (zt_X13_compare_p63 hL  h)
      · skip
        exact kz_weak [(0, .ref (w_adr E.2.1 12 0)), (1, .int x1), (2, .int x2), (3, .int x3)] ⟨rfl, ⟨rfl, ⟨rfl, ⟨rfl, trivial⟩⟩⟩⟩ rfl (zt_X13_compare_p56 hL  h)
def zb_X13_compare_p33 (E : zE) (L : Nat) (Q : kx_Rs → wS → Prop) (x1 : Int32) (x2 : Int32) (x3 : Int32) (w : wS) : Prop := zb_X13_compare_p34 E L Q x1 x2 x3 0 w
theorem zt_X13_compare_p33 {E : zE} {L : Nat} {Q : kx_Rs → wS → Prop} {x1 : Int32} {x2 : Int32} {x3 : Int32} {w : wS} (hL : 22 ≤ L) (h : zb_X13_compare_p33 E L Q x1 x2 x3 w) : kzE E L kt_M376 33 [(0, .ref (w_adr E.2.1 12 0)), (1, .int x1), (2, .int x2), (3, .int x3)] [] w Q := by
  unfold zb_X13_compare_p33 at h
  refine kz_ic (M := kt_M376) 0 kX13_compare_c2.2.2.2.1 rfl ?_
  exact kz_weak [(0, .ref (w_adr E.2.1 12 0)), (1, .int x1), (2, .int x2), (3, .int x3)] ⟨rfl, ⟨rfl, ⟨rfl, ⟨rfl, trivial⟩⟩⟩⟩ rfl (zt_X13_compare_p34 hL  h)
def zb_X13_compare_p0 (E : zE) (L : Nat) (Q : kx_Rs → wS → Prop) (x1 : Int32) (x2 : Int32) (w : wS) : Prop := zw E (L - 22) kt_M564 [.ref (w_adr E.2.1 12 0), .int (w_i w 12 0 89)] w (wk1 (fun v2 w1 => wle w w1 → (if 0 ≤ v2 then (if (x1 &&& 3) = 0 then zb_X13_compare_p33 E L Q x1 x2 v2 w1 else zw E (L - 22) kt_M430 [.ref (w_adr E.2.1 12 0), .int v2, .int 1] w1 (wk1 (fun v4 w3 => wle w1 w3 → (if v4 = 0 then zb_X13_compare_p33 E L Q x1 x2 v2 w3 else zb_X13_compare_p34 E L Q x1 x2 v2 1 w3)) (fun e w => Q (.inr e) w))) else Q (.inl none) w1)) (fun e w => Q (.inr e) w))
theorem zt_X13_compare_p0 {E : zE} {L : Nat} {Q : kx_Rs → wS → Prop} {x1 : Int32} {x2 : Int32} {w : wS} (hL : 22 ≤ L) (h : zb_X13_compare_p0 E L Q x1 x2 w) : kzE E L kt_M376 0 [(0, .ref (w_adr E.2.1 12 0)), (1, .int x1), (2, .int x2)] [] w Q := by
  unfold zb_X13_compare_p0 at h
  refine kz_aload_n (M := kt_M376) kX13_compare_c0.1 rfl ?_
  refine kz_aload_n (M := kt_M376) kX13_compare_c0.2.1 rfl ?_
  refine kz_gfi (M := kt_M376) (c := 12) (o := 0) kX13_compare_c0.2.2.1 wf_X13_974 (.inl rfl) ?_
  refine kz_cv1 (M := kt_M376) (c := 12) (o := 0) (As := [.int (w_i w 12 0 89)]) (rest := []) kX13_compare_c0.2.2.2.1 wl_X13_1093 wMv_564 rfl (.inl rfl) rfl (Nat.le_trans (Nat.le_of_ble_eq_true rfl) hL) (Nat.le_of_ble_eq_true rfl) (Nat.le_of_ble_eq_true rfl) h (fun v2 w1 hle h => ?_) (fun _ _ _ h => kzx_no rfl h)
  have h := h hle
  refine kz_sti_n (M := kt_M376) [(0, .ref (w_adr E.2.1 12 0)), (1, .int x1), (2, .int x2)] kX13_compare_c0.2.2.2.2.1 (Nat.le_of_ble_eq_true rfl) ⟨⟨rfl, rfl, .inl rfl⟩, ⟨⟨rfl, rfl, .inl rfl⟩, ⟨⟨rfl, rfl, .inr rfl⟩, trivial⟩⟩⟩ rfl ?_
  refine kz_iload_n (M := kt_M376) kX13_compare_c0.2.2.2.2.2.1 rfl ?_
  refine kz_if_ge (M := kt_M376) kX13_compare_c0.2.2.2.2.2.2.1 (t := 14) rfl h (fun h => ?_) (fun h => ?_)
  · skip
    refine kz_iload_n (M := kt_M376) kX13_compare_c1.1 rfl ?_
    refine kz_ic (M := kt_M376) 3 kX13_compare_c1.2.1 rfl ?_
    refine kz_iand (M := kt_M376) kX13_compare_c1.2.2.1 ?_
    refine kz_if_eq (M := kt_M376) kX13_compare_c1.2.2.2.1 (t := 33) rfl h (fun h => ?_) (fun h => ?_)
    · skip
      exact kz_weak [(0, .ref (w_adr E.2.1 12 0)), (1, .int x1), (2, .int x2), (3, .int v2)] ⟨rfl, ⟨rfl, ⟨rfl, ⟨rfl, trivial⟩⟩⟩⟩ rfl (zt_X13_compare_p33 hL  h)
    · skip
      refine kz_aload_n (M := kt_M376) kX13_compare_c1.2.2.2.2.1 rfl ?_
      refine kz_iload_n (M := kt_M376) kX13_compare_c1.2.2.2.2.2.1 rfl ?_
      refine kz_ic (M := kt_M376) 1 kX13_compare_c1.2.2.2.2.2.2.1 rfl ?_
      refine kz_cv1 (M := kt_M376) (c := 12) (o := 0) (As := [.int v2, .int 1]) (rest := []) kX13_compare_c1.2.2.2.2.2.2.2.1 wl_X13_1096 wMv_430 rfl (.inl rfl) rfl (Nat.le_trans (Nat.le_of_ble_eq_true rfl) hL) (Nat.le_of_ble_eq_true rfl) (Nat.le_of_ble_eq_true rfl) h (fun v4 w3 hle h => ?_) (fun _ _ _ h => kzx_no rfl h)
      have h := h hle
      refine kz_if_eq (M := kt_M376) kX13_compare_c2.1 (t := 33) rfl h (fun h => ?_) (fun h => ?_)
      · skip
        exact kz_weak [(0, .ref (w_adr E.2.1 12 0)), (1, .int x1), (2, .int x2), (3, .int v2)] ⟨rfl, ⟨rfl, ⟨rfl, ⟨rfl, trivial⟩⟩⟩⟩ rfl (zt_X13_compare_p33 hL  h)
      · skip
        refine kz_ic (M := kt_M376) 1 kX13_compare_c2.2.1 rfl ?_
        refine kz_goto (M := kt_M376) kX13_compare_c2.2.2.1 (t := 34) rfl ?_
        exact kz_weak [(0, .ref (w_adr E.2.1 12 0)), (1, .int x1), (2, .int x2), (3, .int v2)] ⟨rfl, ⟨rfl, ⟨rfl, ⟨rfl, trivial⟩⟩⟩⟩ rfl (zt_X13_compare_p34 hL  h)
  · skip
    exact kz_ret (M := kt_M376) kX13_compare_c0.2.2.2.2.2.2.2.1 rfl h
def zL_X13_touchedAt_p2 (E : zE) (L : Nat) (Q : kx_Rs → wS → Prop) (x1 : Int32) (x2 : Int32) (w : wS) : Prop := kzE E L kt_M564 2 [(0, .ref (w_adr E.2.1 12 0)), (1, .int x1), (2, .int x2)] [] w Q
def zb_X13_touchedAt_p2 (E : zE) (L : Nat) (Q : kx_Rs → wS → Prop) (x1 : Int32) (x2 : Int32) (w : wS) : Prop := (if w_i w 12 0 104 ≤ x2 then Q (.inl (some (.int (-1)))) w else (kx_inb x2 (w_n w 12 0 105) = true ∧ (if ¬ w_a w 12 0 105 (x2).toNatClampNeg = x1 then zL_X13_touchedAt_p2 E L Q x1 (x2 + 1) w else Q (.inl (some (.int x2))) w)))
theorem zt_X13_touchedAt_p2 {E : zE} {L : Nat} {Q : kx_Rs → wS → Prop} {x1 : Int32} {x2 : Int32} {w : wS} (hL : 19 ≤ L) (h : zb_X13_touchedAt_p2 E L Q x1 x2 w) : kzE E L kt_M564 2 [(0, .ref (w_adr E.2.1 12 0)), (1, .int x1), (2, .int x2)] [] w Q := by
  unfold zb_X13_touchedAt_p2 at h
  refine kz_iload_n (M := kt_M564) kX13_touchedAt_c0.2.2.1 rfl ?_
  refine kz_aload_n (M := kt_M564) kX13_touchedAt_c0.2.2.2.1 rfl ?_
  refine kz_gfi (M := kt_M564) (c := 12) (o := 0) kX13_touchedAt_c0.2.2.2.2.1 wf_X13_1090 (.inl rfl) ?_
  refine kz_icmp_ge (M := kt_M564) kX13_touchedAt_c0.2.2.2.2.2.1 (t := 28) rfl h (fun h => ?_) (fun h => ?_)
  · skip
    refine kz_ic (M := kt_M564) (-1) kX13_touchedAt_c2.1 rfl ?_
    exact kz_iret (M := kt_M564) kX13_touchedAt_c2.2.1 rfl rfl h
  · skip
    refine kz_aload_n (M := kt_M564) kX13_touchedAt_c0.2.2.2.2.2.2.1 rfl ?_
    refine kz_gfc (M := kt_M564) (x := 4177) (c := 12) (o := 0) kX13_touchedAt_c0.2.2.2.2.2.2.2.1 wf_X13_334 (.inl rfl) ?_
    refine kz_iload_n (M := kt_M564) kX13_touchedAt_c1.1 rfl ?_
    refine kz_iald (M := kt_M564) (c := 12) (o := 0) (k := 105) (a := (E.2.1 4177)) kX13_touchedAt_c1.2.1 ow_12_0_105 oa_12_0_105 ot_0 h (fun h => ?_)
    refine kz_iload_n (M := kt_M564) kX13_touchedAt_c1.2.2.1 rfl ?_
    refine kz_icmp_ne (M := kt_M564) kX13_touchedAt_c1.2.2.2.1 (t := 22) rfl h (fun h => ?_) (fun h => ?_)
    · skip
      refine kz_inc (M := kt_M564) [(0, .ref (w_adr E.2.1 12 0)), (1, .int x1)] kX13_touchedAt_c1.2.2.2.2.2.2.1 rfl (Nat.le_of_ble_eq_true rfl) ⟨⟨rfl, rfl, .inl rfl⟩, ⟨⟨rfl, rfl, .inr rfl⟩, trivial⟩⟩ rfl ?_
      refine kz_goto (M := kt_M564) kX13_touchedAt_c1.2.2.2.2.2.2.2.1 (t := 2) rfl ?_
      exact kz_weak [(0, .ref (w_adr E.2.1 12 0)), (1, .int x1), (2, .int (x2 + 1))] ⟨rfl, ⟨rfl, ⟨rfl, trivial⟩⟩⟩ rfl h
    · skip
      refine kz_iload_n (M := kt_M564) kX13_touchedAt_c1.2.2.2.2.1 rfl ?_
      exact kz_iret (M := kt_M564) kX13_touchedAt_c1.2.2.2.2.2.1 rfl rfl h
def zb_X13_touchedAt_p0 (E : zE) (L : Nat) (Q : kx_Rs → wS → Prop) (x1 : Int32) (w : wS) : Prop := zL_X13_touchedAt_p2 E L Q x1 0 w
theorem zt_X13_touchedAt_p0 {E : zE} {L : Nat} {Q : kx_Rs → wS → Prop} {x1 : Int32} {w : wS} (hL : 19 ≤ L) (h : zb_X13_touchedAt_p0 E L Q x1 w) : kzE E L kt_M564 0 [(0, .ref (w_adr E.2.1 12 0)), (1, .int x1)] [] w Q := by
  unfold zb_X13_touchedAt_p0 at h
  refine kz_ic (M := kt_M564) 0 kX13_touchedAt_c0.1 rfl ?_
  refine kz_sti_n (M := kt_M564) [(0, .ref (w_adr E.2.1 12 0)), (1, .int x1)] kX13_touchedAt_c0.2.1 (Nat.le_of_ble_eq_true rfl) ⟨⟨rfl, rfl, .inl rfl⟩, ⟨⟨rfl, rfl, .inr rfl⟩, trivial⟩⟩ rfl ?_
  exact kz_weak [(0, .ref (w_adr E.2.1 12 0)), (1, .int x1), (2, .int 0)] ⟨rfl, ⟨rfl, ⟨rfl, trivial⟩⟩⟩ rfl h
def zb_X13_hits_p0 (E : zE) (L : Nat) (Q : kx_Rs → wS → Prop) (x1 : Int32) (x2 : Int32) (w : wS) : Prop := (kx_inb ((4 * x1) + x2) (w_n w 12 0 106) = true ∧ zw E (L - 28) kt_M470 [.int (w_i w 12 0 91), .ref (E.2.1 4164), .int 0, .int (w_a w 12 0 106 (((4 * x1) + x2)).toNatClampNeg), .ref (E.2.1 4179), .int (((4 * x1) + x2) * 4)] w (wk1 (fun v2 w1 => wle w w1 → ((v2 = 0 ∨ v2 = 1) ∧ Q (.inl (some (.int v2))) w1)) (fun e w => Q (.inr e) w)))
theorem zt_X13_hits_p0 {E : zE} {L : Nat} {Q : kx_Rs → wS → Prop} {x1 : Int32} {x2 : Int32} {w : wS} (hL : 28 ≤ L) (h : zb_X13_hits_p0 E L Q x1 x2 w) : kzE E L kt_M430 0 [(0, .ref (w_adr E.2.1 12 0)), (1, .int x1), (2, .int x2)] [] w Q := by
  unfold zb_X13_hits_p0 at h
  refine kz_aload_n (M := kt_M430) kX13_hits_c0.1 rfl ?_
  refine kz_gfi (M := kt_M430) (c := 12) (o := 0) kX13_hits_c0.2.1 wf_X13_988 (.inl rfl) ?_
  refine kz_aload_n (M := kt_M430) kX13_hits_c0.2.2.1 rfl ?_
  refine kz_gfc (M := kt_M430) (x := 4164) (c := 12) (o := 0) kX13_hits_c0.2.2.2.1 wf_X13_310 (.inl rfl) ?_
  refine kz_ic (M := kt_M430) 0 kX13_hits_c0.2.2.2.2.1 rfl ?_
  refine kz_aload_n (M := kt_M430) kX13_hits_c0.2.2.2.2.2.1 rfl ?_
  refine kz_gfc (M := kt_M430) (x := 4178) (c := 12) (o := 0) kX13_hits_c0.2.2.2.2.2.2.1 wf_X13_337 (.inl rfl) ?_
  refine kz_ic (M := kt_M430) 4 kX13_hits_c0.2.2.2.2.2.2.2.1 rfl ?_
  refine kz_iload_n (M := kt_M430) kX13_hits_c1.1 rfl ?_
  refine kz_imul (M := kt_M430) kX13_hits_c1.2.1 ?_
  refine kz_iload_n (M := kt_M430) kX13_hits_c1.2.2.1 rfl ?_
  refine kz_iadd (M := kt_M430) kX13_hits_c1.2.2.2.1 ?_
  refine kz_zald (M := kt_M430) (c := 12) (o := 0) (k := 106) (a := (E.2.1 4178)) kX13_hits_c1.2.2.2.2.1 ow_12_0_106 oa_12_0_106 ot_2 h (fun h => ?_)
  refine kz_aload_n (M := kt_M430) kX13_hits_c1.2.2.2.2.2.1 rfl ?_
  refine kz_gfc (M := kt_M430) (x := 4179) (c := 12) (o := 0) kX13_hits_c1.2.2.2.2.2.2.1 wf_X13_340 (.inl rfl) ?_
  refine kz_ic (M := kt_M430) 4 kX13_hits_c1.2.2.2.2.2.2.2.1 rfl ?_
  refine kz_iload_n (M := kt_M430) kX13_hits_c2.1 rfl ?_
  refine kz_imul (M := kt_M430) kX13_hits_c2.2.1 ?_
  refine kz_iload_n (M := kt_M430) kX13_hits_c2.2.2.1 rfl ?_
  refine kz_iadd (M := kt_M430) kX13_hits_c2.2.2.2.1 ?_
  refine kz_ic (M := kt_M430) 4 kX13_hits_c2.2.2.2.2.1 rfl ?_
  refine kz_imul (M := kt_M430) kX13_hits_c2.2.2.2.2.2.1 ?_
  refine kz_cs1 (M := kt_M430) (As := [.int (w_i w 12 0 91), .ref (E.2.1 4164), .int 0, .int (w_a w 12 0 106 (((4 * x1) + x2)).toNatClampNeg), .ref (E.2.1 4179), .int (((4 * x1) + x2) * 4)]) (rest := []) kX13_hits_c2.2.2.2.2.2.2.1 wl_X13_1082 wMs_470 rfl (Nat.le_trans (Nat.le_of_ble_eq_true rfl) hL) (Nat.le_of_ble_eq_true rfl) (Nat.le_of_ble_eq_true rfl) h (fun v2 w1 hle h => ?_) (fun _ _ _ h => kzx_no rfl h)
  have h := h hle
  exact kz_iretz (M := kt_M430) kX13_hits_c2.2.2.2.2.2.2.2.1 rfl h.1 h.2
def zL_X13_meets_p48 (E : zE) (L : Nat) (Q : kx_Rs → wS → Prop) (c1 o1 k1 : Nat) (x2 : Int32) (c4 o4 k4 : Nat) (x5 : Int32) (x6 : Int64) (x8 : Int32) (w : wS) : Prop := kzE E L kt_M470 48 [(1, .ref (w_aa wG E.2.1 w c1 o1 k1)), (2, .int x2), (4, .ref (w_aa wG E.2.1 w c4 o4 k4)), (5, .int x5), (6, .long (x6)), (8, .int x8)] [] w Q
def zb_X13_meets_p92 (E : zE) (L : Nat) (Q : kx_Rs → wS → Prop) (y0 : Int32) (w : wS) : Prop := ((y0 = 0 ∨ y0 = 1) ∧ Q (.inl (some (.int y0))) w)
theorem zt_X13_meets_p92 {E : zE} {L : Nat} {Q : kx_Rs → wS → Prop} {y0 : Int32} {w : wS} (hL : 24 ≤ L) (h : zb_X13_meets_p92 E L Q y0 w) : kzE E L kt_M470 92 [] [.int y0] w Q := by
  unfold zb_X13_meets_p92 at h
  exact kz_iretz (M := kt_M470) kX13_meets_c6.2.2.2.2.1 rfl h.1 h.2
def zb_X13_meets_p48 (E : zE) (L : Nat) (Q : kx_Rs → wS → Prop) (c1 o1 k1 : Nat) (x2 : Int32) (c4 o4 k4 : Nat) (x5 : Int32) (x6 : Int64) (x8 : Int32) (w : wS) : Prop := (if 4 ≤ x8 then (if (lg_cmp x6 0) = 0 then zb_X13_meets_p92 E L Q 0 w else zb_X13_meets_p92 E L Q 1 w) else (kx_inb (x2 + x8) (w_n w c1 o1 k1) = true ∧ (kx_inb (x5 + x8) (w_n w c4 o4 k4) = true ∧ zL_X13_meets_p48 E L Q c1 o1 k1 x2 c4 o4 k4 x5 (x6 ||| ((w_b w c1 o1 k1 ((x2 + x8)).toNatClampNeg) &&& (w_b w c4 o4 k4 ((x5 + x8)).toNatClampNeg))) (x8 + 1) w)))
theorem zt_X13_meets_p48 {E : zE} {L : Nat} {Q : kx_Rs → wS → Prop} {c1 o1 k1 : Nat} {x2 : Int32} {c4 o4 k4 : Nat} {x5 : Int32} {x6 : Int64} {x8 : Int32} {w : wS} (hL : 24 ≤ L) (ho1 : w_own w wG E.2.1 3 c1 o1 k1) (ho4 : w_own w wG E.2.1 3 c4 o4 k4) (h : zb_X13_meets_p48 E L Q c1 o1 k1 x2 c4 o4 k4 x5 x6 x8 w) : kzE E L kt_M470 48 [(1, .ref (w_aa wG E.2.1 w c1 o1 k1)), (2, .int x2), (4, .ref (w_aa wG E.2.1 w c4 o4 k4)), (5, .int x5), (6, .long (x6)), (8, .int x8)] [] w Q := by
  unfold zb_X13_meets_p48 at h
  refine kz_iload (M := kt_M470) kX13_meets_c3.2.2.1 rfl ?_
  refine kz_ic (M := kt_M470) 4 kX13_meets_c3.2.2.2.1 rfl ?_
  refine kz_icmp_ge (M := kt_M470) kX13_meets_c3.2.2.2.2.1 (t := 80) rfl h (fun h => ?_) (fun h => ?_)
  · skip
    refine kz_lload (M := kt_M470) kX13_meets_c5.2.2.2.2.2.1 rfl ?_
    refine kz_lconst (M := kt_M470) kX13_meets_c5.2.2.2.2.2.2.1 ?_
    refine kz_lcmp (M := kt_M470) kX13_meets_c5.2.2.2.2.2.2.2.1 ?_
    refine kz_if_eq (M := kt_M470) kX13_meets_c6.1 (t := 91) rfl h (fun h => ?_) (fun h => ?_)
    · skip
      refine kz_ic (M := kt_M470) 0 kX13_meets_c6.2.2.2.1 rfl ?_
      exact kz_weak [] trivial rfl (zt_X13_meets_p92 hL  h)
    · skip
      refine kz_ic (M := kt_M470) 1 kX13_meets_c6.2.1 rfl ?_
      refine kz_goto (M := kt_M470) kX13_meets_c6.2.2.1 (t := 92) rfl ?_
      exact kz_weak [] trivial rfl (zt_X13_meets_p92 hL  h)
  · skip
    refine kz_lload (M := kt_M470) kX13_meets_c3.2.2.2.2.2.1 rfl ?_
    refine kz_aload_n (M := kt_M470) kX13_meets_c3.2.2.2.2.2.2.1 rfl ?_
    refine kz_iload_n (M := kt_M470) kX13_meets_c3.2.2.2.2.2.2.2.1 rfl ?_
    refine kz_iload (M := kt_M470) kX13_meets_c4.1 rfl ?_
    refine kz_iadd (M := kt_M470) kX13_meets_c4.2.1 ?_
    refine kz_lald (M := kt_M470) (c := c1) (o := o1) (k := k1) (a := (w_aa wG E.2.1 w c1 o1 k1)) kX13_meets_c4.2.2.1 ho1 rfl ot_3 h (fun h => ?_)
    refine kz_aload (M := kt_M470) kX13_meets_c4.2.2.2.1 rfl ?_
    refine kz_iload (M := kt_M470) kX13_meets_c4.2.2.2.2.1 rfl ?_
    refine kz_iload (M := kt_M470) kX13_meets_c4.2.2.2.2.2.1 rfl ?_
    refine kz_iadd (M := kt_M470) kX13_meets_c4.2.2.2.2.2.2.1 ?_
    refine kz_lald (M := kt_M470) (c := c4) (o := o4) (k := k4) (a := (w_aa wG E.2.1 w c4 o4 k4)) kX13_meets_c4.2.2.2.2.2.2.2.1 ho4 rfl ot_3 h (fun h => ?_)
    refine kz_land (M := kt_M470) kX13_meets_c5.1 ?_
    refine kz_lor (M := kt_M470) kX13_meets_c5.2.1 ?_
    refine kz_stl (M := kt_M470) [(1, .ref (w_aa wG E.2.1 w c1 o1 k1)), (2, .int x2), (4, .ref (w_aa wG E.2.1 w c4 o4 k4)), (5, .int x5), (8, .int x8)] kX13_meets_c5.2.2.1 (Nat.le_of_ble_eq_true rfl) ⟨⟨rfl, rfl, .inl rfl⟩, ⟨⟨rfl, rfl, .inl rfl⟩, ⟨⟨rfl, rfl, .inl rfl⟩, ⟨⟨rfl, rfl, .inr rfl⟩, ⟨⟨rfl, rfl, .inl rfl⟩, trivial⟩⟩⟩⟩⟩ rfl rfl ?_
    refine kz_inc (M := kt_M470) [(1, .ref (w_aa wG E.2.1 w c1 o1 k1)), (2, .int x2), (4, .ref (w_aa wG E.2.1 w c4 o4 k4)), (5, .int x5), (6, .long ((x6 ||| ((w_b w c1 o1 k1 ((x2 + x8)).toNatClampNeg) &&& (w_b w c4 o4 k4 ((x5 + x8)).toNatClampNeg)))))] kX13_meets_c5.2.2.2.1 rfl (Nat.le_of_ble_eq_true rfl) ⟨⟨rfl, rfl, .inl rfl⟩, ⟨⟨rfl, rfl, .inl rfl⟩, ⟨⟨rfl, rfl, .inl rfl⟩, ⟨⟨rfl, rfl, .inl rfl⟩, ⟨⟨rfl, rfl, .inl rfl⟩, trivial⟩⟩⟩⟩⟩ rfl ?_
    refine kz_goto (M := kt_M470) kX13_meets_c5.2.2.2.2.1 (t := 48) rfl ?_
    exact kz_weak [(1, .ref (w_aa wG E.2.1 w c1 o1 k1)), (2, .int x2), (4, .ref (w_aa wG E.2.1 w c4 o4 k4)), (5, .int x5), (6, .long ((x6 ||| ((w_b w c1 o1 k1 ((x2 + x8)).toNatClampNeg) &&& (w_b w c4 o4 k4 ((x5 + x8)).toNatClampNeg))))), (8, .int (x8 + 1))] ⟨rfl, ⟨rfl, ⟨rfl, ⟨rfl, ⟨rfl, ⟨rfl, trivial⟩⟩⟩⟩⟩⟩ rfl h
def zb_X13_meets_p41 (E : zE) (L : Nat) (Q : kx_Rs → wS → Prop) (y0 : Int32) (w : wS) : Prop := ((y0 = 0 ∨ y0 = 1) ∧ Q (.inl (some (.int y0))) w)
theorem zt_X13_meets_p41 {E : zE} {L : Nat} {Q : kx_Rs → wS → Prop} {y0 : Int32} {w : wS} (hL : 24 ≤ L) (h : zb_X13_meets_p41 E L Q y0 w) : kzE E L kt_M470 41 [] [.int y0] w Q := by
  unfold zb_X13_meets_p41 at h
  exact kz_iretz (M := kt_M470) kX13_meets_c2.2.2.2.2.2.1 rfl h.1 h.2
def zb_X13_meets_p23 (E : zE) (L : Nat) (Q : kx_Rs → wS → Prop) (y0 : Int32) (w : wS) : Prop := ((y0 = 0 ∨ y0 = 1) ∧ Q (.inl (some (.int y0))) w)
theorem zt_X13_meets_p23 {E : zE} {L : Nat} {Q : kx_Rs → wS → Prop} {y0 : Int32} {w : wS} (hL : 24 ≤ L) (h : zb_X13_meets_p23 E L Q y0 w) : kzE E L kt_M470 23 [] [.int y0] w Q := by
  unfold zb_X13_meets_p23 at h
  exact kz_iretz (M := kt_M470) kX13_meets_c1.2.2.2.1 rfl h.1 h.2
def zb_X13_meets_p18 (E : zE) (L : Nat) (Q : kx_Rs → wS → Prop) (w : wS) : Prop := zb_X13_meets_p23 E L Q 1 w
theorem zt_X13_meets_p18 {E : zE} {L : Nat} {Q : kx_Rs → wS → Prop} {w : wS} (hL : 24 ≤ L) (h : zb_X13_meets_p18 E L Q  w) : kzE E L kt_M470 18 [] [] w Q := by
  unfold zb_X13_meets_p18 at h
  refine kz_ic (M := kt_M470) 1 kX13_meets_c1.1 rfl ?_
  refine kz_goto (M := kt_M470) kX13_meets_c1.2.1 (t := 23) rfl ?_
  exact kz_weak [] trivial rfl (zt_X13_meets_p23 hL  h)
def zb_X13_meets_p0 (E : zE) (L : Nat) (Q : kx_Rs → wS → Prop) (x0 : Int32) (c1 o1 k1 : Nat) (x2 : Int32) (x3 : Int32) (c4 o4 k4 : Nat) (x5 : Int32) (w : wS) : Prop := (if x0 = 0 then (if x3 = 0 then zL_X13_meets_p48 E L Q c1 o1 k1 x2 c4 o4 k4 x5 0 0 w else zw E (L - 24) kt_M444 [.ref (w_aa wG E.2.1 w c1 o1 k1), .int x2] w (wk1 (fun v2 w1 => wle w w1 → (if ¬ v2 = 0 then zb_X13_meets_p41 E L Q 0 w1 else zb_X13_meets_p41 E L Q 1 w1)) (fun e w => Q (.inr e) w))) else (if ¬ x3 = 0 then zb_X13_meets_p18 E L Q w else zw E (L - 24) kt_M444 [.ref (w_aa wG E.2.1 w c4 o4 k4), .int x5] w (wk1 (fun v4 w3 => wle w w3 → (if ¬ v4 = 0 then zb_X13_meets_p23 E L Q 0 w3 else zb_X13_meets_p18 E L Q w3)) (fun e w => Q (.inr e) w))))
theorem zt_X13_meets_p0 {E : zE} {L : Nat} {Q : kx_Rs → wS → Prop} {x0 : Int32} {c1 o1 k1 : Nat} {x2 : Int32} {x3 : Int32} {c4 o4 k4 : Nat} {x5 : Int32} {w : wS} (hL : 24 ≤ L) (ho1 : w_own w wG E.2.1 3 c1 o1 k1) (ho4 : w_own w wG E.2.1 3 c4 o4 k4) (h : zb_X13_meets_p0 E L Q x0 c1 o1 k1 x2 x3 c4 o4 k4 x5 w) : kzE E L kt_M470 0 [(0, .int x0), (1, .ref (w_aa wG E.2.1 w c1 o1 k1)), (2, .int x2), (3, .int x3), (4, .ref (w_aa wG E.2.1 w c4 o4 k4)), (5, .int x5)] [] w Q := by
  unfold zb_X13_meets_p0 at h
  refine kz_iload_n (M := kt_M470) kX13_meets_c0.1 rfl ?_
  refine kz_if_eq (M := kt_M470) kX13_meets_c0.2.1 (t := 24) rfl h (fun h => ?_) (fun h => ?_)
  · skip
    refine kz_iload_n (M := kt_M470) kX13_meets_c1.2.2.2.2.1 rfl ?_
    refine kz_if_eq (M := kt_M470) kX13_meets_c1.2.2.2.2.2.1 (t := 42) rfl h (fun h => ?_) (fun h => ?_)
    · skip
      refine kz_lconst (M := kt_M470) kX13_meets_c2.2.2.2.2.2.2.1 ?_
      refine kz_stl (M := kt_M470) [(1, .ref (w_aa wG E.2.1 w c1 o1 k1)), (2, .int x2), (4, .ref (w_aa wG E.2.1 w c4 o4 k4)), (5, .int x5)] kX13_meets_c2.2.2.2.2.2.2.2.1 (Nat.le_of_ble_eq_true rfl) ⟨⟨rfl, rfl, .inl rfl⟩, ⟨⟨rfl, rfl, .inl rfl⟩, ⟨⟨rfl, rfl, .inl rfl⟩, ⟨⟨rfl, rfl, .inr rfl⟩, trivial⟩⟩⟩⟩ rfl rfl ?_
      refine kz_ic (M := kt_M470) 0 kX13_meets_c3.1 rfl ?_
      refine kz_sti (M := kt_M470) [(1, .ref (w_aa wG E.2.1 w c1 o1 k1)), (2, .int x2), (4, .ref (w_aa wG E.2.1 w c4 o4 k4)), (5, .int x5), (6, .long (0))] kX13_meets_c3.2.1 (Nat.le_of_ble_eq_true rfl) ⟨⟨rfl, rfl, .inl rfl⟩, ⟨⟨rfl, rfl, .inl rfl⟩, ⟨⟨rfl, rfl, .inl rfl⟩, ⟨⟨rfl, rfl, .inl rfl⟩, ⟨⟨rfl, rfl, .inl rfl⟩, trivial⟩⟩⟩⟩⟩ rfl ?_
      exact kz_weak [(1, .ref (w_aa wG E.2.1 w c1 o1 k1)), (2, .int x2), (4, .ref (w_aa wG E.2.1 w c4 o4 k4)), (5, .int x5), (6, .long (0)), (8, .int 0)] ⟨rfl, ⟨rfl, ⟨rfl, ⟨rfl, ⟨rfl, ⟨rfl, trivial⟩⟩⟩⟩⟩⟩ rfl h
    · skip
      refine kz_aload_n (M := kt_M470) kX13_meets_c1.2.2.2.2.2.2.1 rfl ?_
      refine kz_iload_n (M := kt_M470) kX13_meets_c1.2.2.2.2.2.2.2.1 rfl ?_
      refine kz_cs1 (M := kt_M470) (As := [.ref (w_aa wG E.2.1 w c1 o1 k1), .int x2]) (rest := []) kX13_meets_c2.1 wl_X13_1086 wMs_444 rfl (Nat.le_trans (Nat.le_of_ble_eq_true rfl) hL) (Nat.le_of_ble_eq_true rfl) (Nat.le_of_ble_eq_true rfl) h (fun v2 w1 hle h => ?_) (fun _ _ _ h => kzx_no rfl h)
      have h := h hle
      refine kz_if_ne (M := kt_M470) kX13_meets_c2.2.1 (t := 40) rfl h (fun h => ?_) (fun h => ?_)
      · skip
        refine kz_ic (M := kt_M470) 0 kX13_meets_c2.2.2.2.2.1 rfl ?_
        exact kz_weak [] trivial rfl (zt_X13_meets_p41 hL  h)
      · skip
        refine kz_ic (M := kt_M470) 1 kX13_meets_c2.2.2.1 rfl ?_
        refine kz_goto (M := kt_M470) kX13_meets_c2.2.2.2.1 (t := 41) rfl ?_
        exact kz_weak [] trivial rfl (zt_X13_meets_p41 hL  h)
  · skip
    refine kz_iload_n (M := kt_M470) kX13_meets_c0.2.2.1 rfl ?_
    refine kz_if_ne (M := kt_M470) kX13_meets_c0.2.2.2.1 (t := 18) rfl h (fun h => ?_) (fun h => ?_)
    · skip
      exact kz_weak [] trivial rfl (zt_X13_meets_p18 hL  h)
    · skip
      refine kz_aload (M := kt_M470) kX13_meets_c0.2.2.2.2.1 rfl ?_
      refine kz_iload (M := kt_M470) kX13_meets_c0.2.2.2.2.2.1 rfl ?_
      refine kz_cs1 (M := kt_M470) (As := [.ref (w_aa wG E.2.1 w c4 o4 k4), .int x5]) (rest := []) kX13_meets_c0.2.2.2.2.2.2.1 wl_X13_1086 wMs_444 rfl (Nat.le_trans (Nat.le_of_ble_eq_true rfl) hL) (Nat.le_of_ble_eq_true rfl) (Nat.le_of_ble_eq_true rfl) h (fun v4 w3 hle h => ?_) (fun _ _ _ h => kzx_no rfl h)
      have h := h hle
      refine kz_if_ne (M := kt_M470) kX13_meets_c0.2.2.2.2.2.2.2.1 (t := 22) rfl h (fun h => ?_) (fun h => ?_)
      · skip
        refine kz_ic (M := kt_M470) 0 kX13_meets_c1.2.2.1 rfl ?_
        exact kz_weak [] trivial rfl (zt_X13_meets_p23 hL  h)
      · skip
        exact kz_weak [] trivial rfl (zt_X13_meets_p18 hL  h)
def zL_X13_isNone_p5 (E : zE) (L : Nat) (Q : kx_Rs → wS → Prop) (c0 o0 k0 : Nat) (x1 : Int32) (x2 : Int64) (x4 : Int32) (w : wS) : Prop := kzE E L kt_M444 5 [(0, .ref (w_aa wG E.2.1 w c0 o0 k0)), (1, .int x1), (2, .long (x2)), (4, .int x4)] [] w Q
def zb_X13_isNone_p37 (E : zE) (L : Nat) (Q : kx_Rs → wS → Prop) (y0 : Int32) (w : wS) : Prop := ((y0 = 0 ∨ y0 = 1) ∧ Q (.inl (some (.int y0))) w)
theorem zt_X13_isNone_p37 {E : zE} {L : Nat} {Q : kx_Rs → wS → Prop} {y0 : Int32} {w : wS} (hL : 19 ≤ L) (h : zb_X13_isNone_p37 E L Q y0 w) : kzE E L kt_M444 37 [] [.int y0] w Q := by
  unfold zb_X13_isNone_p37 at h
  exact kz_iretz (M := kt_M444) kX13_isNone_c3.1 rfl h.1 h.2
def zb_X13_isNone_p5 (E : zE) (L : Nat) (Q : kx_Rs → wS → Prop) (c0 o0 k0 : Nat) (x1 : Int32) (x2 : Int64) (x4 : Int32) (w : wS) : Prop := (if 4 ≤ x4 then (if ¬ (lg_cmp x2 0) = 0 then zb_X13_isNone_p37 E L Q 0 w else zb_X13_isNone_p37 E L Q 1 w) else (kx_inb (x1 + x4) (w_n w c0 o0 k0) = true ∧ zL_X13_isNone_p5 E L Q c0 o0 k0 x1 (x2 ||| (w_b w c0 o0 k0 ((x1 + x4)).toNatClampNeg)) (x4 + 1) w))
theorem zt_X13_isNone_p5 {E : zE} {L : Nat} {Q : kx_Rs → wS → Prop} {c0 o0 k0 : Nat} {x1 : Int32} {x2 : Int64} {x4 : Int32} {w : wS} (hL : 19 ≤ L) (ho0 : w_own w wG E.2.1 3 c0 o0 k0) (h : zb_X13_isNone_p5 E L Q c0 o0 k0 x1 x2 x4 w) : kzE E L kt_M444 5 [(0, .ref (w_aa wG E.2.1 w c0 o0 k0)), (1, .int x1), (2, .long (x2)), (4, .int x4)] [] w Q := by
  unfold zb_X13_isNone_p5 at h
  refine kz_iload (M := kt_M444) kX13_isNone_c0.2.2.2.2.1 rfl ?_
  refine kz_ic (M := kt_M444) 4 kX13_isNone_c0.2.2.2.2.2.1 rfl ?_
  refine kz_icmp_ge (M := kt_M444) kX13_isNone_c0.2.2.2.2.2.2.1 (t := 26) rfl h (fun h => ?_) (fun h => ?_)
  · skip
    refine kz_lload_n (M := kt_M444) kX13_isNone_c2.2.1 rfl ?_
    refine kz_lconst (M := kt_M444) kX13_isNone_c2.2.2.1 ?_
    refine kz_lcmp (M := kt_M444) kX13_isNone_c2.2.2.2.1 ?_
    refine kz_if_ne (M := kt_M444) kX13_isNone_c2.2.2.2.2.1 (t := 36) rfl h (fun h => ?_) (fun h => ?_)
    · skip
      refine kz_ic (M := kt_M444) 0 kX13_isNone_c2.2.2.2.2.2.2.2.1 rfl ?_
      exact kz_weak [] trivial rfl (zt_X13_isNone_p37 hL  h)
    · skip
      refine kz_ic (M := kt_M444) 1 kX13_isNone_c2.2.2.2.2.2.1 rfl ?_
      refine kz_goto (M := kt_M444) kX13_isNone_c2.2.2.2.2.2.2.1 (t := 37) rfl ?_
      exact kz_weak [] trivial rfl (zt_X13_isNone_p37 hL  h)
  · skip
    refine kz_lload_n (M := kt_M444) kX13_isNone_c0.2.2.2.2.2.2.2.1 rfl ?_
    refine kz_aload_n (M := kt_M444) kX13_isNone_c1.1 rfl ?_
    refine kz_iload_n (M := kt_M444) kX13_isNone_c1.2.1 rfl ?_
    refine kz_iload (M := kt_M444) kX13_isNone_c1.2.2.1 rfl ?_
    refine kz_iadd (M := kt_M444) kX13_isNone_c1.2.2.2.1 ?_
    refine kz_lald (M := kt_M444) (c := c0) (o := o0) (k := k0) (a := (w_aa wG E.2.1 w c0 o0 k0)) kX13_isNone_c1.2.2.2.2.1 ho0 rfl ot_3 h (fun h => ?_)
    refine kz_lor (M := kt_M444) kX13_isNone_c1.2.2.2.2.2.1 ?_
    refine kz_stl_n (M := kt_M444) [(0, .ref (w_aa wG E.2.1 w c0 o0 k0)), (1, .int x1), (4, .int x4)] kX13_isNone_c1.2.2.2.2.2.2.1 (Nat.le_of_ble_eq_true rfl) ⟨⟨rfl, rfl, .inl rfl⟩, ⟨⟨rfl, rfl, .inr rfl⟩, ⟨⟨rfl, rfl, .inl rfl⟩, trivial⟩⟩⟩ rfl rfl ?_
    refine kz_inc (M := kt_M444) [(0, .ref (w_aa wG E.2.1 w c0 o0 k0)), (1, .int x1), (2, .long ((x2 ||| (w_b w c0 o0 k0 ((x1 + x4)).toNatClampNeg))))] kX13_isNone_c1.2.2.2.2.2.2.2.1 rfl (Nat.le_of_ble_eq_true rfl) ⟨⟨rfl, rfl, .inl rfl⟩, ⟨⟨rfl, rfl, .inl rfl⟩, ⟨⟨rfl, rfl, .inl rfl⟩, trivial⟩⟩⟩ rfl ?_
    refine kz_goto (M := kt_M444) kX13_isNone_c2.1 (t := 5) rfl ?_
    exact kz_weak [(0, .ref (w_aa wG E.2.1 w c0 o0 k0)), (1, .int x1), (2, .long ((x2 ||| (w_b w c0 o0 k0 ((x1 + x4)).toNatClampNeg)))), (4, .int (x4 + 1))] ⟨rfl, ⟨rfl, ⟨rfl, ⟨rfl, trivial⟩⟩⟩⟩ rfl h
def zb_X13_isNone_p0 (E : zE) (L : Nat) (Q : kx_Rs → wS → Prop) (c0 o0 k0 : Nat) (x1 : Int32) (w : wS) : Prop := zL_X13_isNone_p5 E L Q c0 o0 k0 x1 0 0 w
theorem zt_X13_isNone_p0 {E : zE} {L : Nat} {Q : kx_Rs → wS → Prop} {c0 o0 k0 : Nat} {x1 : Int32} {w : wS} (hL : 19 ≤ L) (ho0 : w_own w wG E.2.1 3 c0 o0 k0) (h : zb_X13_isNone_p0 E L Q c0 o0 k0 x1 w) : kzE E L kt_M444 0 [(0, .ref (w_aa wG E.2.1 w c0 o0 k0)), (1, .int x1)] [] w Q := by
  unfold zb_X13_isNone_p0 at h
  refine kz_lconst (M := kt_M444) kX13_isNone_c0.1 ?_
  refine kz_stl_n (M := kt_M444) [(0, .ref (w_aa wG E.2.1 w c0 o0 k0)), (1, .int x1)] kX13_isNone_c0.2.1 (Nat.le_of_ble_eq_true rfl) ⟨⟨rfl, rfl, .inl rfl⟩, ⟨⟨rfl, rfl, .inr rfl⟩, trivial⟩⟩ rfl rfl ?_
  refine kz_ic (M := kt_M444) 0 kX13_isNone_c0.2.2.1 rfl ?_
  refine kz_sti (M := kt_M444) [(0, .ref (w_aa wG E.2.1 w c0 o0 k0)), (1, .int x1), (2, .long (0))] kX13_isNone_c0.2.2.2.1 (Nat.le_of_ble_eq_true rfl) ⟨⟨rfl, rfl, .inl rfl⟩, ⟨⟨rfl, rfl, .inl rfl⟩, ⟨⟨rfl, rfl, .inl rfl⟩, trivial⟩⟩⟩ rfl ?_
  exact kz_weak [(0, .ref (w_aa wG E.2.1 w c0 o0 k0)), (1, .int x1), (2, .long (0)), (4, .int 0)] ⟨rfl, ⟨rfl, ⟨rfl, ⟨rfl, trivial⟩⟩⟩⟩ rfl h
def zL_X13_touch_p147 (E : zE) (L : Nat) (Q : kx_Rs → wS → Prop) (x1 : Int32) (x2 : Int32) (x3 : Int32) (x4 : Int32) (w : wS) : Prop := kzE E L kt_M563 147 [(0, .ref (w_adr E.2.1 12 0)), (1, .int x1), (2, .int x2), (3, .int x3), (4, .int x4)] [] w Q
def zL_X13_touch_p111 (E : zE) (L : Nat) (Q : kx_Rs → wS → Prop) (x1 : Int32) (x2 : Int32) (x3 : Int32) (w : wS) : Prop := kzE E L kt_M563 111 [(0, .ref (w_adr E.2.1 12 0)), (1, .int x1), (2, .int x2), (3, .int x3)] [] w Q
def zL_X13_touch_p77 (E : zE) (L : Nat) (Q : kx_Rs → wS → Prop) (x1 : Int32) (x2 : Int32) (x3 : Int32) (w : wS) : Prop := kzE E L kt_M563 77 [(0, .ref (w_adr E.2.1 12 0)), (1, .int x1), (2, .int x2), (3, .int x3)] [] w Q
def zL_X13_touch_p42 (E : zE) (L : Nat) (Q : kx_Rs → wS → Prop) (x1 : Int32) (x2 : Int32) (x3 : Int32) (w : wS) : Prop := kzE E L kt_M563 42 [(0, .ref (w_adr E.2.1 12 0)), (1, .int x1), (2, .int x2), (3, .int x3)] [] w Q
def zb_X13_touch_p184 (E : zE) (L : Nat) (Q : kx_Rs → wS → Prop) (x1 : Int32) (x2 : Int32) (x3 : Int32) (w : wS) : Prop := zL_X13_touch_p111 E L Q x1 x2 (x3 + 1) w
theorem zt_X13_touch_p184 {E : zE} {L : Nat} {Q : kx_Rs → wS → Prop} {x1 : Int32} {x2 : Int32} {x3 : Int32} {w : wS} (hL : 22 ≤ L) (h : zb_X13_touch_p184 E L Q x1 x2 x3 w) : kzE E L kt_M563 184 [(0, .ref (w_adr E.2.1 12 0)), (1, .int x1), (2, .int x2), (3, .int x3)] [] w Q := by
  unfold zb_X13_touch_p184 at h
  refine kz_inc (M := kt_M563) [(0, .ref (w_adr E.2.1 12 0)), (1, .int x1), (2, .int x2)] kX13_touch_c15.2.2.2.1 rfl (Nat.le_of_ble_eq_true rfl) ⟨⟨rfl, rfl, .inl rfl⟩, ⟨⟨rfl, rfl, .inl rfl⟩, ⟨⟨rfl, rfl, .inr rfl⟩, trivial⟩⟩⟩ rfl ?_
  refine kz_goto (M := kt_M563) kX13_touch_c15.2.2.2.2.1 (t := 111) rfl ?_
  exact kz_weak [(0, .ref (w_adr E.2.1 12 0)), (1, .int x1), (2, .int x2), (3, .int (x3 + 1))] ⟨rfl, ⟨rfl, ⟨rfl, ⟨rfl, trivial⟩⟩⟩⟩ rfl h
def zb_X13_touch_p147 (E : zE) (L : Nat) (Q : kx_Rs → wS → Prop) (x1 : Int32) (x2 : Int32) (x3 : Int32) (x4 : Int32) (w : wS) : Prop := (if 4 ≤ x4 then zb_X13_touch_p184 E L Q x1 x2 x3 w else (kx_inb ((((4 * x2) + x3) * 4) + x4) (w_n w 12 0 109) = true ∧ (kx_inb x4 (w_n w 12 0 92) = true ∧ (kx_inb ((((4 * x2) + x3) * 4) + x4) (w_n w 12 0 109) = true ∧ zL_X13_touch_p147 E L Q x1 x2 x3 (x4 + 1) (ws_b w 12 0 109 (((((4 * x2) + x3) * 4) + x4)).toNatClampNeg ((w_b w 12 0 109 (((((4 * x2) + x3) * 4) + x4)).toNatClampNeg) ||| (w_b w 12 0 92 (x4).toNatClampNeg)))))))
theorem zt_X13_touch_p147 {E : zE} {L : Nat} {Q : kx_Rs → wS → Prop} {x1 : Int32} {x2 : Int32} {x3 : Int32} {x4 : Int32} {w : wS} (hL : 22 ≤ L) (h : zb_X13_touch_p147 E L Q x1 x2 x3 x4 w) : kzE E L kt_M563 147 [(0, .ref (w_adr E.2.1 12 0)), (1, .int x1), (2, .int x2), (3, .int x3), (4, .int x4)] [] w Q := by
  unfold zb_X13_touch_p147 at h
  refine kz_iload (M := kt_M563) kX13_touch_c12.2.2.2.1 rfl ?_
  refine kz_ic (M := kt_M563) 4 kX13_touch_c12.2.2.2.2.1 rfl ?_
  refine kz_icmp_ge (M := kt_M563) kX13_touch_c12.2.2.2.2.2.1 (t := 184) rfl h (fun h => ?_) (fun h => ?_)
  · skip
    exact kz_weak [(0, .ref (w_adr E.2.1 12 0)), (1, .int x1), (2, .int x2), (3, .int x3)] ⟨rfl, ⟨rfl, ⟨rfl, ⟨rfl, trivial⟩⟩⟩⟩ rfl (zt_X13_touch_p184 hL  h)
  · skip
    refine kz_aload_n (M := kt_M563) kX13_touch_c12.2.2.2.2.2.2.1 rfl ?_
    refine kz_gfc (M := kt_M563) (x := 4181) (c := 12) (o := 0) kX13_touch_c12.2.2.2.2.2.2.2.1 wf_X13_346 (.inl rfl) ?_
    refine kz_ic (M := kt_M563) 4 kX13_touch_c13.1 rfl ?_
    refine kz_iload_n (M := kt_M563) kX13_touch_c13.2.1 rfl ?_
    refine kz_imul (M := kt_M563) kX13_touch_c13.2.2.1 ?_
    refine kz_iload_n (M := kt_M563) kX13_touch_c13.2.2.2.1 rfl ?_
    refine kz_iadd (M := kt_M563) kX13_touch_c13.2.2.2.2.1 ?_
    refine kz_ic (M := kt_M563) 4 kX13_touch_c13.2.2.2.2.2.1 rfl ?_
    refine kz_imul (M := kt_M563) kX13_touch_c13.2.2.2.2.2.2.1 ?_
    refine kz_iload (M := kt_M563) kX13_touch_c13.2.2.2.2.2.2.2.1 rfl ?_
    refine kz_iadd (M := kt_M563) kX13_touch_c14.1 ?_
    refine kz_dup2 (M := kt_M563) kX13_touch_c14.2.1 ⟨rfl, rfl⟩ ?_
    refine kz_lald (M := kt_M563) (c := 12) (o := 0) (k := 109) (a := (E.2.1 4181)) kX13_touch_c14.2.2.1 ow_12_0_109 oa_12_0_109 ot_3 h (fun h => ?_)
    refine kz_aload_n (M := kt_M563) kX13_touch_c14.2.2.2.1 rfl ?_
    refine kz_gfc (M := kt_M563) (x := 4164) (c := 12) (o := 0) kX13_touch_c14.2.2.2.2.1 wf_X13_310 (.inl rfl) ?_
    refine kz_iload (M := kt_M563) kX13_touch_c14.2.2.2.2.2.1 rfl ?_
    refine kz_lald (M := kt_M563) (c := 12) (o := 0) (k := 92) (a := (E.2.1 4164)) kX13_touch_c14.2.2.2.2.2.2.1 ow_12_0_92 oa_12_0_92 ot_3 h (fun h => ?_)
    refine kz_lor (M := kt_M563) kX13_touch_c14.2.2.2.2.2.2.2.1 ?_
    refine kz_last (M := kt_M563) (c := 12) (o := 0) (k := 109) (a := (E.2.1 4181)) kX13_touch_c15.1 ow_12_0_109 oa_12_0_109 ot_3 h (fun h => ?_)
    refine kz_inc (M := kt_M563) [(0, .ref (w_adr E.2.1 12 0)), (1, .int x1), (2, .int x2), (3, .int x3)] kX13_touch_c15.2.1 rfl (Nat.le_of_ble_eq_true rfl) ⟨⟨rfl, rfl, .inl rfl⟩, ⟨⟨rfl, rfl, .inl rfl⟩, ⟨⟨rfl, rfl, .inl rfl⟩, ⟨⟨rfl, rfl, .inr rfl⟩, trivial⟩⟩⟩⟩ rfl ?_
    refine kz_goto (M := kt_M563) kX13_touch_c15.2.2.1 (t := 147) rfl ?_
    exact kz_weak [(0, .ref (w_adr E.2.1 12 0)), (1, .int x1), (2, .int x2), (3, .int x3), (4, .int (x4 + 1))] ⟨rfl, ⟨rfl, ⟨rfl, ⟨rfl, ⟨rfl, trivial⟩⟩⟩⟩⟩ rfl h
def zb_X13_touch_p111 (E : zE) (L : Nat) (Q : kx_Rs → wS → Prop) (x1 : Int32) (x2 : Int32) (x3 : Int32) (w : wS) : Prop := (if 4 ≤ x3 then Q (.inl none) w else (if ¬ ((x1 >>> (x3 &&& 31)) &&& 1) = 0 then (kx_inb ((4 * x2) + x3) (w_n w 12 0 108) = true ∧ (kx_inb ((4 * x2) + x3) (w_n w 12 0 108) = true ∧ zL_X13_touch_p147 E L Q x1 x2 x3 0 (ws_a w 12 0 108 (((4 * x2) + x3)).toNatClampNeg (vp_nar .boolean ((w_a w 12 0 108 (((4 * x2) + x3)).toNatClampNeg) ||| (w_i w 12 0 91)))))) else zb_X13_touch_p184 E L Q x1 x2 x3 w))
theorem zt_X13_touch_p111 {E : zE} {L : Nat} {Q : kx_Rs → wS → Prop} {x1 : Int32} {x2 : Int32} {x3 : Int32} {w : wS} (hL : 22 ≤ L) (h : zb_X13_touch_p111 E L Q x1 x2 x3 w) : kzE E L kt_M563 111 [(0, .ref (w_adr E.2.1 12 0)), (1, .int x1), (2, .int x2), (3, .int x3)] [] w Q := by
  unfold zb_X13_touch_p111 at h
  refine kz_iload_n (M := kt_M563) kX13_touch_c9.2.2.1 rfl ?_
  refine kz_ic (M := kt_M563) 4 kX13_touch_c9.2.2.2.1 rfl ?_
  refine kz_icmp_ge (M := kt_M563) kX13_touch_c9.2.2.2.2.1 (t := 190) rfl h (fun h => ?_) (fun h => ?_)
  · skip
    exact kz_ret (M := kt_M563) kX13_touch_c15.2.2.2.2.2.1 rfl h
  · skip
    refine kz_iload_n (M := kt_M563) kX13_touch_c9.2.2.2.2.2.1 rfl ?_
    refine kz_iload_n (M := kt_M563) kX13_touch_c9.2.2.2.2.2.2.1 rfl ?_
    refine kz_ishr (M := kt_M563) kX13_touch_c9.2.2.2.2.2.2.2.1 ?_
    refine kz_ic (M := kt_M563) 1 kX13_touch_c10.1 rfl ?_
    refine kz_iand (M := kt_M563) kX13_touch_c10.2.1 ?_
    refine kz_if_ne (M := kt_M563) kX13_touch_c10.2.2.1 (t := 127) rfl h (fun h => ?_) (fun h => ?_)
    · skip
      refine kz_aload_n (M := kt_M563) kX13_touch_c10.2.2.2.2.1 rfl ?_
      refine kz_gfc (M := kt_M563) (x := 4180) (c := 12) (o := 0) kX13_touch_c10.2.2.2.2.2.1 wf_X13_343 (.inl rfl) ?_
      refine kz_ic (M := kt_M563) 4 kX13_touch_c10.2.2.2.2.2.2.1 rfl ?_
      refine kz_iload_n (M := kt_M563) kX13_touch_c10.2.2.2.2.2.2.2.1 rfl ?_
      refine kz_imul (M := kt_M563) kX13_touch_c11.1 ?_
      refine kz_iload_n (M := kt_M563) kX13_touch_c11.2.1 rfl ?_
      refine kz_iadd (M := kt_M563) kX13_touch_c11.2.2.1 ?_
      refine kz_dup2 (M := kt_M563) kX13_touch_c11.2.2.2.1 ⟨rfl, rfl⟩ ?_
      refine kz_zald (M := kt_M563) (c := 12) (o := 0) (k := 108) (a := (E.2.1 4180)) kX13_touch_c11.2.2.2.2.1 ow_12_0_108 oa_12_0_108 ot_2 h (fun h => ?_)
      refine kz_aload_n (M := kt_M563) kX13_touch_c11.2.2.2.2.2.1 rfl ?_
      refine kz_gfi (M := kt_M563) (c := 12) (o := 0) kX13_touch_c11.2.2.2.2.2.2.1 wf_X13_988 (.inl rfl) ?_
      refine kz_ior (M := kt_M563) kX13_touch_c11.2.2.2.2.2.2.2.1 ?_
      refine kz_zast (M := kt_M563) (c := 12) (o := 0) (k := 108) (a := (E.2.1 4180)) kX13_touch_c12.1 ow_12_0_108 oa_12_0_108 ot_2 h (fun h => ?_)
      refine kz_ic (M := kt_M563) 0 kX13_touch_c12.2.1 rfl ?_
      refine kz_sti (M := kt_M563) [(0, .ref (w_adr E.2.1 12 0)), (1, .int x1), (2, .int x2), (3, .int x3)] kX13_touch_c12.2.2.1 (Nat.le_of_ble_eq_true rfl) ⟨⟨rfl, rfl, .inl rfl⟩, ⟨⟨rfl, rfl, .inl rfl⟩, ⟨⟨rfl, rfl, .inl rfl⟩, ⟨⟨rfl, rfl, .inr rfl⟩, trivial⟩⟩⟩⟩ rfl ?_
      exact kz_weak [(0, .ref (w_adr E.2.1 12 0)), (1, .int x1), (2, .int x2), (3, .int x3), (4, .int 0)] ⟨rfl, ⟨rfl, ⟨rfl, ⟨rfl, ⟨rfl, trivial⟩⟩⟩⟩⟩ rfl h
    · skip
      refine kz_goto (M := kt_M563) kX13_touch_c10.2.2.2.1 (t := 184) rfl ?_
      exact kz_weak [(0, .ref (w_adr E.2.1 12 0)), (1, .int x1), (2, .int x2), (3, .int x3)] ⟨rfl, ⟨rfl, ⟨rfl, ⟨rfl, trivial⟩⟩⟩⟩ rfl (zt_X13_touch_p184 hL  h)
def zb_X13_touch_p109 (E : zE) (L : Nat) (Q : kx_Rs → wS → Prop) (x1 : Int32) (x2 : Int32) (w : wS) : Prop := zL_X13_touch_p111 E L Q x1 x2 0 w
theorem zt_X13_touch_p109 {E : zE} {L : Nat} {Q : kx_Rs → wS → Prop} {x1 : Int32} {x2 : Int32} {w : wS} (hL : 22 ≤ L) (h : zb_X13_touch_p109 E L Q x1 x2 w) : kzE E L kt_M563 109 [(0, .ref (w_adr E.2.1 12 0)), (1, .int x1), (2, .int x2)] [] w Q := by
  unfold zb_X13_touch_p109 at h
  refine kz_ic (M := kt_M563) 0 kX13_touch_c9.1 rfl ?_
  refine kz_sti_n (M := kt_M563) [(0, .ref (w_adr E.2.1 12 0)), (1, .int x1), (2, .int x2)] kX13_touch_c9.2.1 (Nat.le_of_ble_eq_true rfl) ⟨⟨rfl, rfl, .inl rfl⟩, ⟨⟨rfl, rfl, .inl rfl⟩, ⟨⟨rfl, rfl, .inr rfl⟩, trivial⟩⟩⟩ rfl ?_
  exact kz_weak [(0, .ref (w_adr E.2.1 12 0)), (1, .int x1), (2, .int x2), (3, .int 0)] ⟨rfl, ⟨rfl, ⟨rfl, ⟨rfl, trivial⟩⟩⟩⟩ rfl h
def zb_X13_touch_p77 (E : zE) (L : Nat) (Q : kx_Rs → wS → Prop) (x1 : Int32) (x2 : Int32) (x3 : Int32) (w : wS) : Prop := (if (((4 * x2) * 4) + 16) ≤ x3 then zb_X13_touch_p109 E L Q x1 x2 w else (kx_inb x3 (w_n w 12 0 107) = true ∧ (kx_inb x3 (w_n w 12 0 109) = true ∧ zL_X13_touch_p77 E L Q x1 x2 (x3 + 1) (ws_b (ws_b w 12 0 107 (x3).toNatClampNeg 0) 12 0 109 (x3).toNatClampNeg 0))))
theorem zt_X13_touch_p77 {E : zE} {L : Nat} {Q : kx_Rs → wS → Prop} {x1 : Int32} {x2 : Int32} {x3 : Int32} {w : wS} (hL : 22 ≤ L) (h : zb_X13_touch_p77 E L Q x1 x2 x3 w) : kzE E L kt_M563 77 [(0, .ref (w_adr E.2.1 12 0)), (1, .int x1), (2, .int x2), (3, .int x3)] [] w Q := by
  unfold zb_X13_touch_p77 at h
  refine kz_iload_n (M := kt_M563) kX13_touch_c6.2.2.2.1 rfl ?_
  refine kz_ic (M := kt_M563) 4 kX13_touch_c6.2.2.2.2.1 rfl ?_
  refine kz_iload_n (M := kt_M563) kX13_touch_c6.2.2.2.2.2.1 rfl ?_
  refine kz_imul (M := kt_M563) kX13_touch_c6.2.2.2.2.2.2.1 ?_
  refine kz_ic (M := kt_M563) 4 kX13_touch_c6.2.2.2.2.2.2.2.1 rfl ?_
  refine kz_imul (M := kt_M563) kX13_touch_c7.1 ?_
  refine kz_bi (M := kt_M563) 16 kX13_touch_c7.2.1 rfl ?_
  refine kz_iadd (M := kt_M563) kX13_touch_c7.2.2.1 ?_
  refine kz_icmp_ge (M := kt_M563) kX13_touch_c7.2.2.2.1 (t := 109) rfl h (fun h => ?_) (fun h => ?_)
  · skip
    exact kz_weak [(0, .ref (w_adr E.2.1 12 0)), (1, .int x1), (2, .int x2)] ⟨rfl, ⟨rfl, ⟨rfl, trivial⟩⟩⟩ rfl (zt_X13_touch_p109 hL  h)
  · skip
    refine kz_aload_n (M := kt_M563) kX13_touch_c7.2.2.2.2.1 rfl ?_
    refine kz_gfc (M := kt_M563) (x := 4179) (c := 12) (o := 0) kX13_touch_c7.2.2.2.2.2.1 wf_X13_340 (.inl rfl) ?_
    refine kz_iload_n (M := kt_M563) kX13_touch_c7.2.2.2.2.2.2.1 rfl ?_
    refine kz_lconst (M := kt_M563) kX13_touch_c7.2.2.2.2.2.2.2.1 ?_
    refine kz_last (M := kt_M563) (c := 12) (o := 0) (k := 107) (a := (E.2.1 4179)) kX13_touch_c8.1 ow_12_0_107 oa_12_0_107 ot_3 h (fun h => ?_)
    refine kz_aload_n (M := kt_M563) kX13_touch_c8.2.1 rfl ?_
    refine kz_gfc (M := kt_M563) (x := 4181) (c := 12) (o := 0) kX13_touch_c8.2.2.1 wf_X13_346 (.inl rfl) ?_
    refine kz_iload_n (M := kt_M563) kX13_touch_c8.2.2.2.1 rfl ?_
    refine kz_lconst (M := kt_M563) kX13_touch_c8.2.2.2.2.1 ?_
    refine kz_lastR (M := kt_M563) (n := w_n w 12 0 109) (c := 12) (o := 0) (k := 109) (a := (E.2.1 4181)) kX13_touch_c8.2.2.2.2.2.1 ow_12_0_109 oa_12_0_109 ot_3 rd_n_b h (fun h => ?_)
    refine kz_inc (M := kt_M563) [(0, .ref (w_adr E.2.1 12 0)), (1, .int x1), (2, .int x2)] kX13_touch_c8.2.2.2.2.2.2.1 rfl (Nat.le_of_ble_eq_true rfl) ⟨⟨rfl, rfl, .inl rfl⟩, ⟨⟨rfl, rfl, .inl rfl⟩, ⟨⟨rfl, rfl, .inr rfl⟩, trivial⟩⟩⟩ rfl ?_
    refine kz_goto (M := kt_M563) kX13_touch_c8.2.2.2.2.2.2.2.1 (t := 77) rfl ?_
    exact kz_weak [(0, .ref (w_adr E.2.1 12 0)), (1, .int x1), (2, .int x2), (3, .int (x3 + 1))] ⟨rfl, ⟨rfl, ⟨rfl, ⟨rfl, trivial⟩⟩⟩⟩ rfl h
def zb_X13_touch_p42 (E : zE) (L : Nat) (Q : kx_Rs → wS → Prop) (x1 : Int32) (x2 : Int32) (x3 : Int32) (w : wS) : Prop := (if ((4 * x2) + 4) ≤ x3 then zL_X13_touch_p77 E L Q x1 x2 ((4 * x2) * 4) w else (kx_inb x3 (w_n w 12 0 106) = true ∧ (kx_inb x3 (w_n w 12 0 108) = true ∧ zL_X13_touch_p42 E L Q x1 x2 (x3 + 1) (ws_a (ws_a w 12 0 106 (x3).toNatClampNeg (vp_nar .boolean 0)) 12 0 108 (x3).toNatClampNeg (vp_nar .boolean 0)))))
theorem zt_X13_touch_p42 {E : zE} {L : Nat} {Q : kx_Rs → wS → Prop} {x1 : Int32} {x2 : Int32} {x3 : Int32} {w : wS} (hL : 22 ≤ L) (h : zb_X13_touch_p42 E L Q x1 x2 x3 w) : kzE E L kt_M563 42 [(0, .ref (w_adr E.2.1 12 0)), (1, .int x1), (2, .int x2), (3, .int x3)] [] w Q := by
  unfold zb_X13_touch_p42 at h
  refine kz_iload_n (M := kt_M563) kX13_touch_c3.2.2.1 rfl ?_
  refine kz_ic (M := kt_M563) 4 kX13_touch_c3.2.2.2.1 rfl ?_
  refine kz_iload_n (M := kt_M563) kX13_touch_c3.2.2.2.2.1 rfl ?_
  refine kz_imul (M := kt_M563) kX13_touch_c3.2.2.2.2.2.1 ?_
  refine kz_ic (M := kt_M563) 4 kX13_touch_c3.2.2.2.2.2.2.1 rfl ?_
  refine kz_iadd (M := kt_M563) kX13_touch_c3.2.2.2.2.2.2.2.1 ?_
  refine kz_icmp_ge (M := kt_M563) kX13_touch_c4.1 (t := 71) rfl h (fun h => ?_) (fun h => ?_)
  · skip
    refine kz_ic (M := kt_M563) 4 kX13_touch_c5.2.2.2.2.2.1 rfl ?_
    refine kz_iload_n (M := kt_M563) kX13_touch_c5.2.2.2.2.2.2.1 rfl ?_
    refine kz_imul (M := kt_M563) kX13_touch_c5.2.2.2.2.2.2.2.1 ?_
    refine kz_ic (M := kt_M563) 4 kX13_touch_c6.1 rfl ?_
    refine kz_imul (M := kt_M563) kX13_touch_c6.2.1 ?_
    refine kz_sti_n (M := kt_M563) [(0, .ref (w_adr E.2.1 12 0)), (1, .int x1), (2, .int x2)] kX13_touch_c6.2.2.1 (Nat.le_of_ble_eq_true rfl) ⟨⟨rfl, rfl, .inl rfl⟩, ⟨⟨rfl, rfl, .inl rfl⟩, ⟨⟨rfl, rfl, .inr rfl⟩, trivial⟩⟩⟩ rfl ?_
    exact kz_weak [(0, .ref (w_adr E.2.1 12 0)), (1, .int x1), (2, .int x2), (3, .int ((4 * x2) * 4))] ⟨rfl, ⟨rfl, ⟨rfl, ⟨rfl, trivial⟩⟩⟩⟩ rfl h
  · skip
    refine kz_aload_n (M := kt_M563) kX13_touch_c4.2.1 rfl ?_
    refine kz_gfc (M := kt_M563) (x := 4178) (c := 12) (o := 0) kX13_touch_c4.2.2.1 wf_X13_337 (.inl rfl) ?_
    refine kz_iload_n (M := kt_M563) kX13_touch_c4.2.2.2.1 rfl ?_
    refine kz_ic (M := kt_M563) 0 kX13_touch_c4.2.2.2.2.1 rfl ?_
    refine kz_zast (M := kt_M563) (c := 12) (o := 0) (k := 106) (a := (E.2.1 4178)) kX13_touch_c4.2.2.2.2.2.1 ow_12_0_106 oa_12_0_106 ot_2 h (fun h => ?_)
    refine kz_aload_n (M := kt_M563) kX13_touch_c4.2.2.2.2.2.2.1 rfl ?_
    refine kz_gfc (M := kt_M563) (x := 4180) (c := 12) (o := 0) kX13_touch_c4.2.2.2.2.2.2.2.1 wf_X13_343 (.inl rfl) ?_
    refine kz_iload_n (M := kt_M563) kX13_touch_c5.1 rfl ?_
    refine kz_ic (M := kt_M563) 0 kX13_touch_c5.2.1 rfl ?_
    refine kz_zastR (M := kt_M563) (n := w_n w 12 0 108) (c := 12) (o := 0) (k := 108) (a := (E.2.1 4180)) kX13_touch_c5.2.2.1 ow_12_0_108 oa_12_0_108 ot_2 rd_n_a h (fun h => ?_)
    refine kz_inc (M := kt_M563) [(0, .ref (w_adr E.2.1 12 0)), (1, .int x1), (2, .int x2)] kX13_touch_c5.2.2.2.1 rfl (Nat.le_of_ble_eq_true rfl) ⟨⟨rfl, rfl, .inl rfl⟩, ⟨⟨rfl, rfl, .inl rfl⟩, ⟨⟨rfl, rfl, .inr rfl⟩, trivial⟩⟩⟩ rfl ?_
    refine kz_goto (M := kt_M563) kX13_touch_c5.2.2.2.2.1 (t := 42) rfl ?_
    exact kz_weak [(0, .ref (w_adr E.2.1 12 0)), (1, .int x1), (2, .int x2), (3, .int (x3 + 1))] ⟨rfl, ⟨rfl, ⟨rfl, ⟨rfl, trivial⟩⟩⟩⟩ rfl h
def zb_X13_touch_p0 (E : zE) (L : Nat) (Q : kx_Rs → wS → Prop) (x1 : Int32) (w : wS) : Prop := zw E (L - 22) kt_M564 [.ref (w_adr E.2.1 12 0), .int (w_i w 12 0 89)] w (wk1 (fun v2 w1 => wle w w1 → (if 0 ≤ v2 then zb_X13_touch_p109 E L Q x1 v2 w1 else (kx_inb (w_i w1 12 0 104) (w_n w1 12 0 105) = true ∧ zL_X13_touch_p42 E L Q x1 (w_i w1 12 0 104) (4 * (w_i w1 12 0 104)) (ws_a (ws_i w1 12 0 104 ((w_i w1 12 0 104) + 1)) 12 0 105 (w_i w1 12 0 104).toNatClampNeg (w_i w1 12 0 89))))) (fun e w => Q (.inr e) w))
theorem zt_X13_touch_p0 {E : zE} {L : Nat} {Q : kx_Rs → wS → Prop} {x1 : Int32} {w : wS} (hL : 22 ≤ L) (h : zb_X13_touch_p0 E L Q x1 w) : kzE E L kt_M563 0 [(0, .ref (w_adr E.2.1 12 0)), (1, .int x1)] [] w Q := by
  unfold zb_X13_touch_p0 at h
  refine kz_aload_n (M := kt_M563) kX13_touch_c0.1 rfl ?_
  refine kz_aload_n (M := kt_M563) kX13_touch_c0.2.1 rfl ?_
  refine kz_gfi (M := kt_M563) (c := 12) (o := 0) kX13_touch_c0.2.2.1 wf_X13_974 (.inl rfl) ?_
  refine kz_cv1 (M := kt_M563) (c := 12) (o := 0) (As := [.int (w_i w 12 0 89)]) (rest := []) kX13_touch_c0.2.2.2.1 wl_X13_1093 wMv_564 rfl (.inl rfl) rfl (Nat.le_trans (Nat.le_of_ble_eq_true rfl) hL) (Nat.le_of_ble_eq_true rfl) (Nat.le_of_ble_eq_true rfl) h (fun v2 w1 hle h => ?_) (fun _ _ _ h => kzx_no rfl h)
  have h := h hle
  refine kz_sti_n (M := kt_M563) [(0, .ref (w_adr E.2.1 12 0)), (1, .int x1)] kX13_touch_c0.2.2.2.2.1 (Nat.le_of_ble_eq_true rfl) ⟨⟨rfl, rfl, .inl rfl⟩, ⟨⟨rfl, rfl, .inr rfl⟩, trivial⟩⟩ rfl ?_
  refine kz_iload_n (M := kt_M563) kX13_touch_c0.2.2.2.2.2.1 rfl ?_
  refine kz_if_ge (M := kt_M563) kX13_touch_c0.2.2.2.2.2.2.1 (t := 109) rfl h (fun h => ?_) (fun h => ?_)
  · skip
    exact kz_weak [(0, .ref (w_adr E.2.1 12 0)), (1, .int x1), (2, .int v2)] ⟨rfl, ⟨rfl, ⟨rfl, trivial⟩⟩⟩ rfl (zt_X13_touch_p109 hL  h)
  · skip
    refine kz_aload_n (M := kt_M563) kX13_touch_c0.2.2.2.2.2.2.2.1 rfl ?_
    refine kz_gfi (M := kt_M563) (c := 12) (o := 0) kX13_touch_c1.1 wf_X13_1090 (.inl rfl) ?_
    refine kz_sti_n (M := kt_M563) [(0, .ref (w_adr E.2.1 12 0)), (1, .int x1)] kX13_touch_c1.2.1 (Nat.le_of_ble_eq_true rfl) ⟨⟨rfl, rfl, .inl rfl⟩, ⟨⟨rfl, rfl, .inr rfl⟩, trivial⟩⟩ rfl ?_
    refine kz_aload_n (M := kt_M563) kX13_touch_c1.2.2.1 rfl ?_
    refine kz_dup (M := kt_M563) kX13_touch_c1.2.2.2.1 rfl ?_
    refine kz_gfi (M := kt_M563) (c := 12) (o := 0) kX13_touch_c1.2.2.2.2.1 wf_X13_1090 (.inl rfl) ?_
    refine kz_ic (M := kt_M563) 1 kX13_touch_c1.2.2.2.2.2.1 rfl ?_
    refine kz_iadd (M := kt_M563) kX13_touch_c1.2.2.2.2.2.2.1 ?_
    refine kz_pfi (M := kt_M563) (c := 12) (o := 0) kX13_touch_c1.2.2.2.2.2.2.2.1 wq_X13_1090 (.inl rfl) ?_
    refine kz_aload_n (M := kt_M563) kX13_touch_c2.1 rfl ?_
    refine kz_gfc (M := kt_M563) (x := 4177) (c := 12) (o := 0) kX13_touch_c2.2.1 wf_X13_334 (.inl rfl) ?_
    refine kz_iload_n (M := kt_M563) kX13_touch_c2.2.2.1 rfl ?_
    refine kz_aload_n (M := kt_M563) kX13_touch_c2.2.2.2.1 rfl ?_
    refine kz_gfiR (M := kt_M563) (c := 12) (o := 0) (w_i w1 12 0 89) kX13_touch_c2.2.2.2.2.1 wf_X13_974 (.inl rfl) (rd_i_i rfl) ?_
    refine kz_iastR (M := kt_M563) (n := w_n w1 12 0 105) (c := 12) (o := 0) (k := 105) (a := (E.2.1 4177)) kX13_touch_c2.2.2.2.2.2.1 ow_12_0_105 oa_12_0_105 ot_0 rd_n_i h (fun h => ?_)
    refine kz_ic (M := kt_M563) 4 kX13_touch_c2.2.2.2.2.2.2.1 rfl ?_
    refine kz_iload_n (M := kt_M563) kX13_touch_c2.2.2.2.2.2.2.2.1 rfl ?_
    refine kz_imul (M := kt_M563) kX13_touch_c3.1 ?_
    refine kz_sti_n (M := kt_M563) [(0, .ref (w_adr E.2.1 12 0)), (1, .int x1), (2, .int (w_i w1 12 0 104))] kX13_touch_c3.2.1 (Nat.le_of_ble_eq_true rfl) ⟨⟨rfl, rfl, .inl rfl⟩, ⟨⟨rfl, rfl, .inl rfl⟩, ⟨⟨rfl, rfl, .inr rfl⟩, trivial⟩⟩⟩ rfl ?_
    exact kz_weak [(0, .ref (w_adr E.2.1 12 0)), (1, .int x1), (2, .int (w_i w1 12 0 104)), (3, .int (4 * (w_i w1 12 0 104)))] ⟨rfl, ⟨rfl, ⟨rfl, ⟨rfl, trivial⟩⟩⟩⟩ rfl h
def zb_X13_doesAt_p31 (E : zE) (L : Nat) (Q : kx_Rs → wS → Prop) (w : wS) : Prop := Q (.inl none) w
theorem zt_X13_doesAt_p31 {E : zE} {L : Nat} {Q : kx_Rs → wS → Prop} {w : wS} (hL : 24 ≤ L) (h : zb_X13_doesAt_p31 E L Q  w) : kzE E L kt_M388 31 [(0, .ref (w_adr E.2.1 12 0))] [] w Q := by
  unfold zb_X13_doesAt_p31 at h
  exact kz_ret (M := kt_M388) kX13_doesAt_c2.2.2.2.1 rfl h
def zb_X13_doesAt_p0 (E : zE) (L : Nat) (Q : kx_Rs → wS → Prop) (x1 : Int32) (x2 : Int32) (x3 : Int32) (w : wS) : Prop := zw E (L - 24) kt_M509 [.ref (w_adr E.2.1 12 0), .int x1] w (wk0 (fun w1 => wle w w1 → zw E (L - 22) kt_M387 [.ref (w_adr E.2.1 12 0), .int x2, .int x3] w1 (wk0 (fun w3 => wle w1 w3 → (kx_inb x1 (w_n w3 12 0 28) = true ∧ (if w_a w3 12 0 28 (x1).toNatClampNeg < 0 then zb_X13_doesAt_p31 E L Q w3 else (kx_inb x1 (w_n w3 12 0 28) = true ∧ zw E (L - 23) kt_M592 [.ref (w_adr E.2.1 12 0), .int (w_a w3 12 0 28 (x1).toNatClampNeg), .int x3] w3 (wk0 (fun w5 => wle w3 w5 → zb_X13_doesAt_p31 E L Q w5) (fun e w => Q (.inr e) w)))))) (fun e w => Q (.inr e) w))) (fun e w => Q (.inr e) w))
theorem zt_X13_doesAt_p0 {E : zE} {L : Nat} {Q : kx_Rs → wS → Prop} {x1 : Int32} {x2 : Int32} {x3 : Int32} {w : wS} (hL : 24 ≤ L) (h : zb_X13_doesAt_p0 E L Q x1 x2 x3 w) : kzE E L kt_M388 0 [(0, .ref (w_adr E.2.1 12 0)), (1, .int x1), (2, .int x2), (3, .int x3)] [] w Q := by
  unfold zb_X13_doesAt_p0 at h
  refine kz_aload_n (M := kt_M388) kX13_doesAt_c0.1 rfl ?_
  refine kz_iload_n (M := kt_M388) kX13_doesAt_c0.2.1 rfl ?_
  refine kz_cv0 (M := kt_M388) (c := 12) (o := 0) (As := [.int x1]) (rest := []) kX13_doesAt_c0.2.2.1 wl_X13_1028 wMv_509 rfl (.inl rfl) rfl (Nat.le_trans (Nat.le_of_ble_eq_true rfl) hL) (Nat.le_of_ble_eq_true rfl) (Nat.le_of_ble_eq_true rfl) h (fun w1 hle h => ?_) (fun _ _ _ h => kzx_no rfl h)
  have h := h hle
  refine kz_aload_n (M := kt_M388) kX13_doesAt_c0.2.2.2.1 rfl ?_
  refine kz_iload_n (M := kt_M388) kX13_doesAt_c0.2.2.2.2.1 rfl ?_
  refine kz_iload_n (M := kt_M388) kX13_doesAt_c0.2.2.2.2.2.1 rfl ?_
  refine kz_cv0 (M := kt_M388) (c := 12) (o := 0) (As := [.int x2, .int x3]) (rest := []) kX13_doesAt_c0.2.2.2.2.2.2.1 wl_X13_1031 wMv_387 rfl (.inl rfl) rfl (Nat.le_trans (Nat.le_of_ble_eq_true rfl) hL) (Nat.le_of_ble_eq_true rfl) (Nat.le_of_ble_eq_true rfl) h (fun w3 hle h => ?_) (fun _ _ _ h => kzx_no rfl h)
  have h := h hle
  refine kz_aload_n (M := kt_M388) kX13_doesAt_c0.2.2.2.2.2.2.2.1 rfl ?_
  refine kz_gfc (M := kt_M388) (x := 4100) (c := 12) (o := 0) kX13_doesAt_c1.1 wf_X13_193 (.inl rfl) ?_
  refine kz_iload_n (M := kt_M388) kX13_doesAt_c1.2.1 rfl ?_
  refine kz_iald (M := kt_M388) (c := 12) (o := 0) (k := 28) (a := (E.2.1 4100)) kX13_doesAt_c1.2.2.1 ow_12_0_28 oa_12_0_28 ot_0 h (fun h => ?_)
  refine kz_if_lt (M := kt_M388) kX13_doesAt_c1.2.2.2.1 (t := 31) rfl h (fun h => ?_) (fun h => ?_)
  · skip
    exact kz_weak [(0, .ref (w_adr E.2.1 12 0))] ⟨rfl, trivial⟩ rfl (zt_X13_doesAt_p31 hL  h)
  · skip
    refine kz_aload_n (M := kt_M388) kX13_doesAt_c1.2.2.2.2.1 rfl ?_
    refine kz_aload_n (M := kt_M388) kX13_doesAt_c1.2.2.2.2.2.1 rfl ?_
    refine kz_gfc (M := kt_M388) (x := 4100) (c := 12) (o := 0) kX13_doesAt_c1.2.2.2.2.2.2.1 wf_X13_193 (.inl rfl) ?_
    refine kz_iload_n (M := kt_M388) kX13_doesAt_c1.2.2.2.2.2.2.2.1 rfl ?_
    refine kz_iald (M := kt_M388) (c := 12) (o := 0) (k := 28) (a := (E.2.1 4100)) kX13_doesAt_c2.1 ow_12_0_28 oa_12_0_28 ot_0 h (fun h => ?_)
    refine kz_iload_n (M := kt_M388) kX13_doesAt_c2.2.1 rfl ?_
    refine kz_cv0 (M := kt_M388) (c := 12) (o := 0) (As := [.int (w_a w3 12 0 28 (x1).toNatClampNeg), .int x3]) (rest := []) kX13_doesAt_c2.2.2.1 wl_X13_1034 wMv_592 rfl (.inl rfl) rfl (Nat.le_trans (Nat.le_of_ble_eq_true rfl) hL) (Nat.le_of_ble_eq_true rfl) (Nat.le_of_ble_eq_true rfl) h (fun w5 hle h => ?_) (fun _ _ _ h => kzx_no rfl h)
    have h := h hle
    exact kz_weak [(0, .ref (w_adr E.2.1 12 0))] ⟨rfl, trivial⟩ rfl (zt_X13_doesAt_p31 hL  h)
def zL_X13_place_p14 (E : zE) (L : Nat) (Q : kx_Rs → wS → Prop) (x2 : Int32) (x3 : Int32) (w : wS) : Prop := kzE E L kt_M509 14 [(0, .ref (w_adr E.2.1 12 0)), (2, .int x2), (3, .int x3)] [] w Q
def zb_X13_place_p46 (E : zE) (L : Nat) (Q : kx_Rs → wS → Prop) (x4 : Int32) (y0 : Int32) (w : wS) : Prop := (kx_inb x4 (w_n w 12 0 31) = true ∧ zL_X13_place_p14 E L Q (w_a w 12 0 31 (x4).toNatClampNeg) y0 w)
theorem zt_X13_place_p46 {E : zE} {L : Nat} {Q : kx_Rs → wS → Prop} {x4 : Int32} {y0 : Int32} {w : wS} (hL : 19 ≤ L) (h : zb_X13_place_p46 E L Q x4 y0 w) : kzE E L kt_M509 46 [(0, .ref (w_adr E.2.1 12 0)), (4, .int x4)] [.int y0] w Q := by
  unfold zb_X13_place_p46 at h
  refine kz_sti_n (M := kt_M509) [(0, .ref (w_adr E.2.1 12 0)), (4, .int x4)] kX13_place_c3.2.2.2.2.1 (Nat.le_of_ble_eq_true rfl) ⟨⟨rfl, rfl, .inl rfl⟩, ⟨⟨rfl, rfl, .inl rfl⟩, trivial⟩⟩ rfl ?_
  refine kz_aload_n (M := kt_M509) kX13_place_c3.2.2.2.2.2.1 rfl ?_
  refine kz_gfc (M := kt_M509) (x := 4103) (c := 12) (o := 0) kX13_place_c3.2.2.2.2.2.2.1 wf_X13_202 (.inl rfl) ?_
  refine kz_iload (M := kt_M509) kX13_place_c3.2.2.2.2.2.2.2.1 rfl ?_
  refine kz_iald (M := kt_M509) (c := 12) (o := 0) (k := 31) (a := (E.2.1 4103)) kX13_place_c4.1 ow_12_0_31 oa_12_0_31 ot_0 h (fun h => ?_)
  refine kz_sti_n (M := kt_M509) [(0, .ref (w_adr E.2.1 12 0)), (3, .int y0)] kX13_place_c4.2.1 (Nat.le_of_ble_eq_true rfl) ⟨⟨rfl, rfl, .inl rfl⟩, ⟨⟨rfl, rfl, .inl rfl⟩, trivial⟩⟩ rfl ?_
  refine kz_goto (M := kt_M509) kX13_place_c4.2.2.1 (t := 14) rfl ?_
  exact kz_weak [(0, .ref (w_adr E.2.1 12 0)), (2, .int (w_a w 12 0 31 (x4).toNatClampNeg)), (3, .int y0)] ⟨rfl, ⟨rfl, ⟨rfl, trivial⟩⟩⟩ rfl h
def zb_X13_place_p14 (E : zE) (L : Nat) (Q : kx_Rs → wS → Prop) (x2 : Int32) (x3 : Int32) (w : wS) : Prop := (kx_inb x2 (w_n w 12 0 54) = true ∧ (if w_a w 12 0 54 (x2).toNatClampNeg < 0 then Q (.inl none) (ws_i (ws_i w 12 0 89 x2) 12 0 90 x3) else (kx_inb x2 (w_n w 12 0 54) = true ∧ (if 0 ≤ x3 then zb_X13_place_p46 E L Q (w_a w 12 0 54 (x2).toNatClampNeg) x3 w else (kx_inb (w_a w 12 0 54 (x2).toNatClampNeg) (w_n w 12 0 28) = true ∧ zb_X13_place_p46 E L Q (w_a w 12 0 54 (x2).toNatClampNeg) (w_a w 12 0 28 (w_a w 12 0 54 (x2).toNatClampNeg).toNatClampNeg) w)))))
theorem zt_X13_place_p14 {E : zE} {L : Nat} {Q : kx_Rs → wS → Prop} {x2 : Int32} {x3 : Int32} {w : wS} (hL : 19 ≤ L) (h : zb_X13_place_p14 E L Q x2 x3 w) : kzE E L kt_M509 14 [(0, .ref (w_adr E.2.1 12 0)), (2, .int x2), (3, .int x3)] [] w Q := by
  unfold zb_X13_place_p14 at h
  refine kz_aload_n (M := kt_M509) kX13_place_c1.2.2.1 rfl ?_
  refine kz_gfc (M := kt_M509) (x := 4126) (c := 12) (o := 0) kX13_place_c1.2.2.2.1 wf_X13_248 (.inl rfl) ?_
  refine kz_iload_n (M := kt_M509) kX13_place_c1.2.2.2.2.1 rfl ?_
  refine kz_iald (M := kt_M509) (c := 12) (o := 0) (k := 54) (a := (E.2.1 4126)) kX13_place_c1.2.2.2.2.2.1 ow_12_0_54 oa_12_0_54 ot_0 h (fun h => ?_)
  refine kz_if_lt (M := kt_M509) kX13_place_c1.2.2.2.2.2.2.1 (t := 58) rfl h (fun h => ?_) (fun h => ?_)
  · skip
    refine kz_aload_n (M := kt_M509) kX13_place_c4.2.2.2.1 rfl ?_
    refine kz_iload_n (M := kt_M509) kX13_place_c4.2.2.2.2.1 rfl ?_
    refine kz_pfi (M := kt_M509) (c := 12) (o := 0) kX13_place_c4.2.2.2.2.2.1 wq_X13_974 (.inl rfl) ?_
    refine kz_aload_n (M := kt_M509) kX13_place_c4.2.2.2.2.2.2.1 rfl ?_
    refine kz_iload_n (M := kt_M509) kX13_place_c4.2.2.2.2.2.2.2.1 rfl ?_
    refine kz_pfi (M := kt_M509) (c := 12) (o := 0) kX13_place_c5.1 wq_X13_977 (.inl rfl) ?_
    exact kz_ret (M := kt_M509) kX13_place_c5.2.1 rfl h
  · skip
    refine kz_aload_n (M := kt_M509) kX13_place_c1.2.2.2.2.2.2.2.1 rfl ?_
    refine kz_gfc (M := kt_M509) (x := 4126) (c := 12) (o := 0) kX13_place_c2.1 wf_X13_248 (.inl rfl) ?_
    refine kz_iload_n (M := kt_M509) kX13_place_c2.2.1 rfl ?_
    refine kz_iald (M := kt_M509) (c := 12) (o := 0) (k := 54) (a := (E.2.1 4126)) kX13_place_c2.2.2.1 ow_12_0_54 oa_12_0_54 ot_0 h (fun h => ?_)
    refine kz_sti (M := kt_M509) [(0, .ref (w_adr E.2.1 12 0)), (3, .int x3)] kX13_place_c2.2.2.2.1 (Nat.le_of_ble_eq_true rfl) ⟨⟨rfl, rfl, .inl rfl⟩, ⟨⟨rfl, rfl, .inr rfl⟩, trivial⟩⟩ rfl ?_
    refine kz_iload_n (M := kt_M509) kX13_place_c2.2.2.2.2.1 rfl ?_
    refine kz_if_ge (M := kt_M509) kX13_place_c2.2.2.2.2.2.1 (t := 45) rfl h (fun h => ?_) (fun h => ?_)
    · skip
      refine kz_iload_n (M := kt_M509) kX13_place_c3.2.2.2.1 rfl ?_
      exact kz_weak [(0, .ref (w_adr E.2.1 12 0)), (4, .int (w_a w 12 0 54 (x2).toNatClampNeg))] ⟨rfl, ⟨rfl, trivial⟩⟩ rfl (zt_X13_place_p46 hL  h)
    · skip
      refine kz_aload_n (M := kt_M509) kX13_place_c2.2.2.2.2.2.2.1 rfl ?_
      refine kz_gfc (M := kt_M509) (x := 4100) (c := 12) (o := 0) kX13_place_c2.2.2.2.2.2.2.2.1 wf_X13_193 (.inl rfl) ?_
      refine kz_iload (M := kt_M509) kX13_place_c3.1 rfl ?_
      refine kz_iald (M := kt_M509) (c := 12) (o := 0) (k := 28) (a := (E.2.1 4100)) kX13_place_c3.2.1 ow_12_0_28 oa_12_0_28 ot_0 h (fun h => ?_)
      refine kz_goto (M := kt_M509) kX13_place_c3.2.2.1 (t := 46) rfl ?_
      exact kz_weak [(0, .ref (w_adr E.2.1 12 0)), (4, .int (w_a w 12 0 54 (x2).toNatClampNeg))] ⟨rfl, ⟨rfl, trivial⟩⟩ rfl (zt_X13_place_p46 hL  h)
def zb_X13_place_p0 (E : zE) (L : Nat) (Q : kx_Rs → wS → Prop) (x1 : Int32) (w : wS) : Prop := (kx_inb x1 (w_n w 12 0 31) = true ∧ (kx_inb x1 (w_n w 12 0 28) = true ∧ zL_X13_place_p14 E L Q (w_a w 12 0 31 (x1).toNatClampNeg) (w_a w 12 0 28 (x1).toNatClampNeg) w))
theorem zt_X13_place_p0 {E : zE} {L : Nat} {Q : kx_Rs → wS → Prop} {x1 : Int32} {w : wS} (hL : 19 ≤ L) (h : zb_X13_place_p0 E L Q x1 w) : kzE E L kt_M509 0 [(0, .ref (w_adr E.2.1 12 0)), (1, .int x1)] [] w Q := by
  unfold zb_X13_place_p0 at h
  refine kz_aload_n (M := kt_M509) kX13_place_c0.1 rfl ?_
  refine kz_gfc (M := kt_M509) (x := 4103) (c := 12) (o := 0) kX13_place_c0.2.1 wf_X13_202 (.inl rfl) ?_
  refine kz_iload_n (M := kt_M509) kX13_place_c0.2.2.1 rfl ?_
  refine kz_iald (M := kt_M509) (c := 12) (o := 0) (k := 31) (a := (E.2.1 4103)) kX13_place_c0.2.2.2.1 ow_12_0_31 oa_12_0_31 ot_0 h (fun h => ?_)
  refine kz_sti_n (M := kt_M509) [(0, .ref (w_adr E.2.1 12 0)), (1, .int x1)] kX13_place_c0.2.2.2.2.1 (Nat.le_of_ble_eq_true rfl) ⟨⟨rfl, rfl, .inl rfl⟩, ⟨⟨rfl, rfl, .inr rfl⟩, trivial⟩⟩ rfl ?_
  refine kz_aload_n (M := kt_M509) kX13_place_c0.2.2.2.2.2.1 rfl ?_
  refine kz_gfc (M := kt_M509) (x := 4100) (c := 12) (o := 0) kX13_place_c0.2.2.2.2.2.2.1 wf_X13_193 (.inl rfl) ?_
  refine kz_iload_n (M := kt_M509) kX13_place_c0.2.2.2.2.2.2.2.1 rfl ?_
  refine kz_iald (M := kt_M509) (c := 12) (o := 0) (k := 28) (a := (E.2.1 4100)) kX13_place_c1.1 ow_12_0_28 oa_12_0_28 ot_0 h (fun h => ?_)
  refine kz_sti_n (M := kt_M509) [(0, .ref (w_adr E.2.1 12 0)), (2, .int (w_a w 12 0 31 (x1).toNatClampNeg))] kX13_place_c1.2.1 (Nat.le_of_ble_eq_true rfl) ⟨⟨rfl, rfl, .inl rfl⟩, ⟨⟨rfl, rfl, .inr rfl⟩, trivial⟩⟩ rfl ?_
  exact kz_weak [(0, .ref (w_adr E.2.1 12 0)), (2, .int (w_a w 12 0 31 (x1).toNatClampNeg)), (3, .int (w_a w 12 0 28 (x1).toNatClampNeg))] ⟨rfl, ⟨rfl, ⟨rfl, trivial⟩⟩⟩ rfl h
def zb_X13_useBlock_p0 (E : zE) (L : Nat) (Q : kx_Rs → wS → Prop) (x1 : Int32) (w : wS) : Prop := (kx_inb x1 (w_n w 12 0 28) = true ∧ zw E (L - 22) kt_M591 [.ref (w_adr E.2.1 12 0), .int (w_a w 12 0 28 (x1).toNatClampNeg)] w (wk0 (fun w1 => wle w w1 → (kx_inb x1 (w_n w1 12 0 29) = true ∧ zw E (L - 24) kt_M588 [.ref (w_adr E.2.1 12 0), .int (w_a w1 12 0 29 (x1).toNatClampNeg)] w1 (wk0 (fun w3 => wle w1 w3 → Q (.inl none) w3) (fun e w => Q (.inr e) w)))) (fun e w => Q (.inr e) w)))
theorem zt_X13_useBlock_p0 {E : zE} {L : Nat} {Q : kx_Rs → wS → Prop} {x1 : Int32} {w : wS} (hL : 24 ≤ L) (h : zb_X13_useBlock_p0 E L Q x1 w) : kzE E L kt_M589 0 [(0, .ref (w_adr E.2.1 12 0)), (1, .int x1)] [] w Q := by
  unfold zb_X13_useBlock_p0 at h
  refine kz_aload_n (M := kt_M589) kX13_useBlock_c0.1 rfl ?_
  refine kz_aload_n (M := kt_M589) kX13_useBlock_c0.2.1 rfl ?_
  refine kz_gfc (M := kt_M589) (x := 4100) (c := 12) (o := 0) kX13_useBlock_c0.2.2.1 wf_X13_193 (.inl rfl) ?_
  refine kz_iload_n (M := kt_M589) kX13_useBlock_c0.2.2.2.1 rfl ?_
  refine kz_iald (M := kt_M589) (c := 12) (o := 0) (k := 28) (a := (E.2.1 4100)) kX13_useBlock_c0.2.2.2.2.1 ow_12_0_28 oa_12_0_28 ot_0 h (fun h => ?_)
  refine kz_cv0 (M := kt_M589) (c := 12) (o := 0) (As := [.int (w_a w 12 0 28 (x1).toNatClampNeg)]) (rest := []) kX13_useBlock_c0.2.2.2.2.2.1 wl_X13_1043 wMv_591 rfl (.inl rfl) rfl (Nat.le_trans (Nat.le_of_ble_eq_true rfl) hL) (Nat.le_of_ble_eq_true rfl) (Nat.le_of_ble_eq_true rfl) h (fun w1 hle h => ?_) (fun _ _ _ h => kzx_no rfl h)
  have h := h hle
  refine kz_aload_n (M := kt_M589) kX13_useBlock_c0.2.2.2.2.2.2.1 rfl ?_
  refine kz_aload_n (M := kt_M589) kX13_useBlock_c0.2.2.2.2.2.2.2.1 rfl ?_
  refine kz_gfc (M := kt_M589) (x := 4101) (c := 12) (o := 0) kX13_useBlock_c1.1 wf_X13_196 (.inl rfl) ?_
  refine kz_iload_n (M := kt_M589) kX13_useBlock_c1.2.1 rfl ?_
  refine kz_iald (M := kt_M589) (c := 12) (o := 0) (k := 29) (a := (E.2.1 4101)) kX13_useBlock_c1.2.2.1 ow_12_0_29 oa_12_0_29 ot_0 h (fun h => ?_)
  refine kz_cv0 (M := kt_M589) (c := 12) (o := 0) (As := [.int (w_a w1 12 0 29 (x1).toNatClampNeg)]) (rest := []) kX13_useBlock_c1.2.2.2.1 wl_X13_1046 wMv_588 rfl (.inl rfl) rfl (Nat.le_trans (Nat.le_of_ble_eq_true rfl) hL) (Nat.le_of_ble_eq_true rfl) (Nat.le_of_ble_eq_true rfl) h (fun w3 hle h => ?_) (fun _ _ _ h => kzx_no rfl h)
  have h := h hle
  exact kz_ret (M := kt_M589) kX13_useBlock_c1.2.2.2.2.1 rfl h
def zL_X13_useAction_p655 (E : zE) (L : Nat) (Q : kx_Rs → wS → Prop) (x3 : Int32) (w : wS) : Prop := kzE E L kt_M588 655 [(0, .ref (w_adr E.2.1 12 0)), (3, .int x3)] [] w Q
def zL_X13_useAction_p555 (E : zE) (L : Nat) (Q : kx_Rs → wS → Prop) (x3 : Int32) (w : wS) : Prop := kzE E L kt_M588 555 [(0, .ref (w_adr E.2.1 12 0)), (3, .int x3)] [] w Q
def zL_X13_useAction_p496 (E : zE) (L : Nat) (Q : kx_Rs → wS → Prop) (x3 : Int32) (w : wS) : Prop := kzE E L kt_M588 496 [(0, .ref (w_adr E.2.1 12 0)), (3, .int x3)] [] w Q
def zL_X13_useAction_p469 (E : zE) (L : Nat) (Q : kx_Rs → wS → Prop) (x3 : Int32) (w : wS) : Prop := kzE E L kt_M588 469 [(0, .ref (w_adr E.2.1 12 0)), (3, .int x3)] [] w Q
def zL_X13_useAction_p367 (E : zE) (L : Nat) (Q : kx_Rs → wS → Prop) (x2 : Int32) (x3 : Int32) (w : wS) : Prop := kzE E L kt_M588 367 [(0, .ref (w_adr E.2.1 12 0)), (2, .int x2), (3, .int x3)] [] w Q
def zL_X13_useAction_p259 (E : zE) (L : Nat) (Q : kx_Rs → wS → Prop) (x3 : Int32) (x4 : Int32) (w : wS) : Prop := kzE E L kt_M588 259 [(0, .ref (w_adr E.2.1 12 0)), (3, .int x3), (4, .int x4)] [] w Q
def zL_X13_useAction_p247 (E : zE) (L : Nat) (Q : kx_Rs → wS → Prop) (x3 : Int32) (w : wS) : Prop := kzE E L kt_M588 247 [(0, .ref (w_adr E.2.1 12 0)), (3, .int x3)] [] w Q
def zL_X13_useAction_p184 (E : zE) (L : Nat) (Q : kx_Rs → wS → Prop) (x2 : Int32) (x3 : Int32) (w : wS) : Prop := kzE E L kt_M588 184 [(0, .ref (w_adr E.2.1 12 0)), (2, .int x2), (3, .int x3)] [] w Q
def zL_X13_useAction_p118 (E : zE) (L : Nat) (Q : kx_Rs → wS → Prop) (x2 : Int32) (x3 : Int32) (w : wS) : Prop := kzE E L kt_M588 118 [(0, .ref (w_adr E.2.1 12 0)), (2, .int x2), (3, .int x3)] [] w Q
def zL_X13_useAction_p91 (E : zE) (L : Nat) (Q : kx_Rs → wS → Prop) (x1 : Int32) (x2 : Int32) (x3 : Int32) (w : wS) : Prop := kzE E L kt_M588 91 [(0, .ref (w_adr E.2.1 12 0)), (1, .int x1), (2, .int x2), (3, .int x3)] [] w Q
def zb_X13_useAction_p713 (E : zE) (L : Nat) (Q : kx_Rs → wS → Prop) (x3 : Int32) (w : wS) : Prop := (kx_inb x3 (w_n w 12 0 32) = true ∧ zL_X13_useAction_p655 E L Q (w_a w 12 0 32 (x3).toNatClampNeg) w)
theorem zt_X13_useAction_p713 {E : zE} {L : Nat} {Q : kx_Rs → wS → Prop} {x3 : Int32} {w : wS} (hL : 24 ≤ L) (h : zb_X13_useAction_p713 E L Q x3 w) : kzE E L kt_M588 713 [(0, .ref (w_adr E.2.1 12 0)), (3, .int x3)] [] w Q := by
  unfold zb_X13_useAction_p713 at h
  refine kz_aload_n (M := kt_M588) kX13_useAction_c49.2.2.2.2.1 rfl ?_
  refine kz_gfc (M := kt_M588) (x := 4104) (c := 12) (o := 0) kX13_useAction_c49.2.2.2.2.2.1 wf_X13_205 (.inl rfl) ?_
  refine kz_iload_n (M := kt_M588) kX13_useAction_c49.2.2.2.2.2.2.1 rfl ?_
  refine kz_iald (M := kt_M588) (c := 12) (o := 0) (k := 32) (a := (E.2.1 4104)) kX13_useAction_c49.2.2.2.2.2.2.2.1 ow_12_0_32 oa_12_0_32 ot_0 h (fun h => ?_)
  refine kz_sti_n (M := kt_M588) [(0, .ref (w_adr E.2.1 12 0))] kX13_useAction_c50.1 (Nat.le_of_ble_eq_true rfl) ⟨⟨rfl, rfl, .inl rfl⟩, trivial⟩ rfl ?_
  refine kz_goto (M := kt_M588) kX13_useAction_c50.2.1 (t := 655) rfl ?_
  exact kz_weak [(0, .ref (w_adr E.2.1 12 0)), (3, .int (w_a w 12 0 32 (x3).toNatClampNeg))] ⟨rfl, ⟨rfl, trivial⟩⟩ rfl h
def zb_X13_useAction_p684 (E : zE) (L : Nat) (Q : kx_Rs → wS → Prop) (x3 : Int32) (w : wS) : Prop := (kx_inb x3 (w_n w 12 0 29) = true ∧ zw E (L - 24) kt_M588 [.ref (w_adr E.2.1 12 0), .int (w_a w 12 0 29 (x3).toNatClampNeg)] w (wk0 (fun w1 => wle w w1 → (kx_inb x3 (w_n w1 12 0 30) = true ∧ (if w_a w1 12 0 30 (x3).toNatClampNeg < 0 then zb_X13_useAction_p713 E L Q x3 w1 else (kx_inb x3 (w_n w1 12 0 30) = true ∧ zw E (L - 21) kt_M589 [.ref (w_adr E.2.1 12 0), .int (w_a w1 12 0 30 (x3).toNatClampNeg)] w1 (wk0 (fun w3 => wle w1 w3 → zb_X13_useAction_p713 E L Q x3 w3) (fun e w => Q (.inr e) w)))))) (fun e w => Q (.inr e) w)))
theorem zt_X13_useAction_p684 {E : zE} {L : Nat} {Q : kx_Rs → wS → Prop} {x3 : Int32} {w : wS} (hL : 24 ≤ L) (h : zb_X13_useAction_p684 E L Q x3 w) : kzE E L kt_M588 684 [(0, .ref (w_adr E.2.1 12 0)), (3, .int x3)] [] w Q := by
  unfold zb_X13_useAction_p684 at h
  refine kz_aload_n (M := kt_M588) kX13_useAction_c47.2.2.2.1 rfl ?_
  refine kz_aload_n (M := kt_M588) kX13_useAction_c47.2.2.2.2.1 rfl ?_
  refine kz_gfc (M := kt_M588) (x := 4101) (c := 12) (o := 0) kX13_useAction_c47.2.2.2.2.2.1 wf_X13_196 (.inl rfl) ?_
  refine kz_iload_n (M := kt_M588) kX13_useAction_c47.2.2.2.2.2.2.1 rfl ?_
  refine kz_iald (M := kt_M588) (c := 12) (o := 0) (k := 29) (a := (E.2.1 4101)) kX13_useAction_c47.2.2.2.2.2.2.2.1 ow_12_0_29 oa_12_0_29 ot_0 h (fun h => ?_)
  refine kz_cv0 (M := kt_M588) (c := 12) (o := 0) (As := [.int (w_a w 12 0 29 (x3).toNatClampNeg)]) (rest := []) kX13_useAction_c48.1 wl_X13_1046 wMv_588 rfl (.inl rfl) rfl (Nat.le_trans (Nat.le_of_ble_eq_true rfl) hL) (Nat.le_of_ble_eq_true rfl) (Nat.le_of_ble_eq_true rfl) h (fun w1 hle h => ?_) (fun _ _ _ h => kzx_no rfl h)
  have h := h hle
  refine kz_aload_n (M := kt_M588) kX13_useAction_c48.2.1 rfl ?_
  refine kz_gfc (M := kt_M588) (x := 4102) (c := 12) (o := 0) kX13_useAction_c48.2.2.1 wf_X13_199 (.inl rfl) ?_
  refine kz_iload_n (M := kt_M588) kX13_useAction_c48.2.2.2.1 rfl ?_
  refine kz_iald (M := kt_M588) (c := 12) (o := 0) (k := 30) (a := (E.2.1 4102)) kX13_useAction_c48.2.2.2.2.1 ow_12_0_30 oa_12_0_30 ot_0 h (fun h => ?_)
  refine kz_if_lt (M := kt_M588) kX13_useAction_c48.2.2.2.2.2.1 (t := 713) rfl h (fun h => ?_) (fun h => ?_)
  · skip
    exact kz_weak [(0, .ref (w_adr E.2.1 12 0)), (3, .int x3)] ⟨rfl, ⟨rfl, trivial⟩⟩ rfl (zt_X13_useAction_p713 hL  h)
  · skip
    refine kz_aload_n (M := kt_M588) kX13_useAction_c48.2.2.2.2.2.2.1 rfl ?_
    refine kz_aload_n (M := kt_M588) kX13_useAction_c48.2.2.2.2.2.2.2.1 rfl ?_
    refine kz_gfc (M := kt_M588) (x := 4102) (c := 12) (o := 0) kX13_useAction_c49.1 wf_X13_199 (.inl rfl) ?_
    refine kz_iload_n (M := kt_M588) kX13_useAction_c49.2.1 rfl ?_
    refine kz_iald (M := kt_M588) (c := 12) (o := 0) (k := 30) (a := (E.2.1 4102)) kX13_useAction_c49.2.2.1 ow_12_0_30 oa_12_0_30 ot_0 h (fun h => ?_)
    refine kz_cv0 (M := kt_M588) (c := 12) (o := 0) (As := [.int (w_a w1 12 0 30 (x3).toNatClampNeg)]) (rest := []) kX13_useAction_c49.2.2.2.1 wl_X13_1052 wMv_589 rfl (.inl rfl) rfl (Nat.le_trans (Nat.le_of_ble_eq_true rfl) hL) (Nat.le_of_ble_eq_true rfl) (Nat.le_of_ble_eq_true rfl) h (fun w3 hle h => ?_) (fun _ _ _ h => kzx_no rfl h)
    have h := h hle
    exact kz_weak [(0, .ref (w_adr E.2.1 12 0)), (3, .int x3)] ⟨rfl, ⟨rfl, trivial⟩⟩ rfl (zt_X13_useAction_p713 hL  h)
def zb_X13_useAction_p655 (E : zE) (L : Nat) (Q : kx_Rs → wS → Prop) (x3 : Int32) (w : wS) : Prop := (if x3 < 0 then Q (.inl none) w else (kx_inb x3 (w_n w 12 0 28) = true ∧ (if w_a w 12 0 28 (x3).toNatClampNeg < 0 then zb_X13_useAction_p684 E L Q x3 w else (kx_inb x3 (w_n w 12 0 28) = true ∧ (kx_inb x3 (w_n w 12 0 27) = true ∧ zw E (L - 23) kt_M592 [.ref (w_adr E.2.1 12 0), .int (w_a w 12 0 28 (x3).toNatClampNeg), .int (w_a w 12 0 27 (x3).toNatClampNeg)] w (wk0 (fun w1 => wle w w1 → zb_X13_useAction_p684 E L Q x3 w1) (fun e w => Q (.inr e) w)))))))
theorem zt_X13_useAction_p655 {E : zE} {L : Nat} {Q : kx_Rs → wS → Prop} {x3 : Int32} {w : wS} (hL : 24 ≤ L) (h : zb_X13_useAction_p655 E L Q x3 w) : kzE E L kt_M588 655 [(0, .ref (w_adr E.2.1 12 0)), (3, .int x3)] [] w Q := by
  unfold zb_X13_useAction_p655 at h
  refine kz_iload_n (M := kt_M588) kX13_useAction_c45.2.2.1 rfl ?_
  refine kz_if_lt (M := kt_M588) kX13_useAction_c45.2.2.2.1 (t := 723) rfl h (fun h => ?_) (fun h => ?_)
  · skip
    exact kz_ret (M := kt_M588) kX13_useAction_c50.2.2.1 rfl h
  · skip
    refine kz_aload_n (M := kt_M588) kX13_useAction_c45.2.2.2.2.1 rfl ?_
    refine kz_gfc (M := kt_M588) (x := 4100) (c := 12) (o := 0) kX13_useAction_c45.2.2.2.2.2.1 wf_X13_193 (.inl rfl) ?_
    refine kz_iload_n (M := kt_M588) kX13_useAction_c45.2.2.2.2.2.2.1 rfl ?_
    refine kz_iald (M := kt_M588) (c := 12) (o := 0) (k := 28) (a := (E.2.1 4100)) kX13_useAction_c45.2.2.2.2.2.2.2.1 ow_12_0_28 oa_12_0_28 ot_0 h (fun h => ?_)
    refine kz_if_lt (M := kt_M588) kX13_useAction_c46.1 (t := 684) rfl h (fun h => ?_) (fun h => ?_)
    · skip
      exact kz_weak [(0, .ref (w_adr E.2.1 12 0)), (3, .int x3)] ⟨rfl, ⟨rfl, trivial⟩⟩ rfl (zt_X13_useAction_p684 hL  h)
    · skip
      refine kz_aload_n (M := kt_M588) kX13_useAction_c46.2.1 rfl ?_
      refine kz_aload_n (M := kt_M588) kX13_useAction_c46.2.2.1 rfl ?_
      refine kz_gfc (M := kt_M588) (x := 4100) (c := 12) (o := 0) kX13_useAction_c46.2.2.2.1 wf_X13_193 (.inl rfl) ?_
      refine kz_iload_n (M := kt_M588) kX13_useAction_c46.2.2.2.2.1 rfl ?_
      refine kz_iald (M := kt_M588) (c := 12) (o := 0) (k := 28) (a := (E.2.1 4100)) kX13_useAction_c46.2.2.2.2.2.1 ow_12_0_28 oa_12_0_28 ot_0 h (fun h => ?_)
      refine kz_aload_n (M := kt_M588) kX13_useAction_c46.2.2.2.2.2.2.1 rfl ?_
      refine kz_gfc (M := kt_M588) (x := 4099) (c := 12) (o := 0) kX13_useAction_c46.2.2.2.2.2.2.2.1 wf_X13_190 (.inl rfl) ?_
      refine kz_iload_n (M := kt_M588) kX13_useAction_c47.1 rfl ?_
      refine kz_iald (M := kt_M588) (c := 12) (o := 0) (k := 27) (a := (E.2.1 4099)) kX13_useAction_c47.2.1 ow_12_0_27 oa_12_0_27 ot_0 h (fun h => ?_)
      refine kz_cv0 (M := kt_M588) (c := 12) (o := 0) (As := [.int (w_a w 12 0 28 (x3).toNatClampNeg), .int (w_a w 12 0 27 (x3).toNatClampNeg)]) (rest := []) kX13_useAction_c47.2.2.1 wl_X13_1034 wMv_592 rfl (.inl rfl) rfl (Nat.le_trans (Nat.le_of_ble_eq_true rfl) hL) (Nat.le_of_ble_eq_true rfl) (Nat.le_of_ble_eq_true rfl) h (fun w1 hle h => ?_) (fun _ _ _ h => kzx_no rfl h)
      have h := h hle
      exact kz_weak [(0, .ref (w_adr E.2.1 12 0)), (3, .int x3)] ⟨rfl, ⟨rfl, trivial⟩⟩ rfl (zt_X13_useAction_p684 hL  h)
def zb_X13_useAction_p648 (E : zE) (L : Nat) (Q : kx_Rs → wS → Prop) (x1 : Int32) (w : wS) : Prop := (kx_inb x1 (w_n w 12 0 29) = true ∧ zL_X13_useAction_p655 E L Q (w_a w 12 0 29 (x1).toNatClampNeg) w)
theorem zt_X13_useAction_p648 {E : zE} {L : Nat} {Q : kx_Rs → wS → Prop} {x1 : Int32} {w : wS} (hL : 24 ≤ L) (h : zb_X13_useAction_p648 E L Q x1 w) : kzE E L kt_M588 648 [(0, .ref (w_adr E.2.1 12 0)), (1, .int x1)] [] w Q := by
  unfold zb_X13_useAction_p648 at h
  refine kz_aload_n (M := kt_M588) kX13_useAction_c44.2.2.2.2.2.1 rfl ?_
  refine kz_gfc (M := kt_M588) (x := 4101) (c := 12) (o := 0) kX13_useAction_c44.2.2.2.2.2.2.1 wf_X13_196 (.inl rfl) ?_
  refine kz_iload_n (M := kt_M588) kX13_useAction_c44.2.2.2.2.2.2.2.1 rfl ?_
  refine kz_iald (M := kt_M588) (c := 12) (o := 0) (k := 29) (a := (E.2.1 4101)) kX13_useAction_c45.1 ow_12_0_29 oa_12_0_29 ot_0 h (fun h => ?_)
  refine kz_sti_n (M := kt_M588) [(0, .ref (w_adr E.2.1 12 0))] kX13_useAction_c45.2.1 (Nat.le_of_ble_eq_true rfl) ⟨⟨rfl, rfl, .inl rfl⟩, trivial⟩ rfl ?_
  exact kz_weak [(0, .ref (w_adr E.2.1 12 0)), (3, .int (w_a w 12 0 29 (x1).toNatClampNeg))] ⟨rfl, ⟨rfl, trivial⟩⟩ rfl h
def zb_X13_useAction_p555 (E : zE) (L : Nat) (Q : kx_Rs → wS → Prop) (x3 : Int32) (w : wS) : Prop := (if x3 < 0 then Q (.inl none) w else (kx_inb x3 (w_n w 12 0 29) = true ∧ zw E (L - 21) kt_M589 [.ref (w_adr E.2.1 12 0), .int (w_a w 12 0 29 (x3).toNatClampNeg)] w (wk0 (fun w1 => wle w w1 → (kx_inb x3 (w_n w1 12 0 32) = true ∧ zL_X13_useAction_p555 E L Q (w_a w1 12 0 32 (x3).toNatClampNeg) w1)) (fun e w => Q (.inr e) w))))
theorem zt_X13_useAction_p555 {E : zE} {L : Nat} {Q : kx_Rs → wS → Prop} {x3 : Int32} {w : wS} (hL : 24 ≤ L) (h : zb_X13_useAction_p555 E L Q x3 w) : kzE E L kt_M588 555 [(0, .ref (w_adr E.2.1 12 0)), (3, .int x3)] [] w Q := by
  unfold zb_X13_useAction_p555 at h
  refine kz_iload_n (M := kt_M588) kX13_useAction_c37.2.2.2.2.1 rfl ?_
  refine kz_if_lt (M := kt_M588) kX13_useAction_c37.2.2.2.2.2.1 (t := 579) rfl h (fun h => ?_) (fun h => ?_)
  · skip
    exact kz_ret (M := kt_M588) kX13_useAction_c39.2.2.1 rfl h
  · skip
    refine kz_aload_n (M := kt_M588) kX13_useAction_c37.2.2.2.2.2.2.1 rfl ?_
    refine kz_aload_n (M := kt_M588) kX13_useAction_c37.2.2.2.2.2.2.2.1 rfl ?_
    refine kz_gfc (M := kt_M588) (x := 4101) (c := 12) (o := 0) kX13_useAction_c38.1 wf_X13_196 (.inl rfl) ?_
    refine kz_iload_n (M := kt_M588) kX13_useAction_c38.2.1 rfl ?_
    refine kz_iald (M := kt_M588) (c := 12) (o := 0) (k := 29) (a := (E.2.1 4101)) kX13_useAction_c38.2.2.1 ow_12_0_29 oa_12_0_29 ot_0 h (fun h => ?_)
    refine kz_cv0 (M := kt_M588) (c := 12) (o := 0) (As := [.int (w_a w 12 0 29 (x3).toNatClampNeg)]) (rest := []) kX13_useAction_c38.2.2.2.1 wl_X13_1052 wMv_589 rfl (.inl rfl) rfl (Nat.le_trans (Nat.le_of_ble_eq_true rfl) hL) (Nat.le_of_ble_eq_true rfl) (Nat.le_of_ble_eq_true rfl) h (fun w1 hle h => ?_) (fun _ _ _ h => kzx_no rfl h)
    have h := h hle
    refine kz_aload_n (M := kt_M588) kX13_useAction_c38.2.2.2.2.1 rfl ?_
    refine kz_gfc (M := kt_M588) (x := 4104) (c := 12) (o := 0) kX13_useAction_c38.2.2.2.2.2.1 wf_X13_205 (.inl rfl) ?_
    refine kz_iload_n (M := kt_M588) kX13_useAction_c38.2.2.2.2.2.2.1 rfl ?_
    refine kz_iald (M := kt_M588) (c := 12) (o := 0) (k := 32) (a := (E.2.1 4104)) kX13_useAction_c38.2.2.2.2.2.2.2.1 ow_12_0_32 oa_12_0_32 ot_0 h (fun h => ?_)
    refine kz_sti_n (M := kt_M588) [(0, .ref (w_adr E.2.1 12 0))] kX13_useAction_c39.1 (Nat.le_of_ble_eq_true rfl) ⟨⟨rfl, rfl, .inl rfl⟩, trivial⟩ rfl ?_
    refine kz_goto (M := kt_M588) kX13_useAction_c39.2.1 (t := 555) rfl ?_
    exact kz_weak [(0, .ref (w_adr E.2.1 12 0)), (3, .int (w_a w1 12 0 32 (x3).toNatClampNeg))] ⟨rfl, ⟨rfl, trivial⟩⟩ rfl h
def zb_X13_useAction_p496 (E : zE) (L : Nat) (Q : kx_Rs → wS → Prop) (x3 : Int32) (w : wS) : Prop := (if x3 < 0 then Q (.inl none) w else (kx_inb x3 (w_n w 12 0 28) = true ∧ (kx_inb x3 (w_n w 12 0 27) = true ∧ zw E (L - 23) kt_M592 [.ref (w_adr E.2.1 12 0), .int (w_a w 12 0 28 (x3).toNatClampNeg), .int (w_a w 12 0 27 (x3).toNatClampNeg)] w (wk0 (fun w1 => wle w w1 → (kx_inb x3 (w_n w1 12 0 29) = true ∧ zw E (L - 21) kt_M589 [.ref (w_adr E.2.1 12 0), .int (w_a w1 12 0 29 (x3).toNatClampNeg)] w1 (wk0 (fun w3 => wle w1 w3 → (kx_inb x3 (w_n w3 12 0 32) = true ∧ zL_X13_useAction_p496 E L Q (w_a w3 12 0 32 (x3).toNatClampNeg) w3)) (fun e w => Q (.inr e) w)))) (fun e w => Q (.inr e) w)))))
theorem zt_X13_useAction_p496 {E : zE} {L : Nat} {Q : kx_Rs → wS → Prop} {x3 : Int32} {w : wS} (hL : 24 ≤ L) (h : zb_X13_useAction_p496 E L Q x3 w) : kzE E L kt_M588 496 [(0, .ref (w_adr E.2.1 12 0)), (3, .int x3)] [] w Q := by
  unfold zb_X13_useAction_p496 at h
  refine kz_iload_n (M := kt_M588) kX13_useAction_c32.2.2.2.2.2.2.2.1 rfl ?_
  refine kz_if_lt (M := kt_M588) kX13_useAction_c33.1 (t := 536) rfl h (fun h => ?_) (fun h => ?_)
  · skip
    exact kz_ret (M := kt_M588) kX13_useAction_c35.2.2.2.2.2.2.2.1 rfl h
  · skip
    refine kz_aload_n (M := kt_M588) kX13_useAction_c33.2.1 rfl ?_
    refine kz_aload_n (M := kt_M588) kX13_useAction_c33.2.2.1 rfl ?_
    refine kz_gfc (M := kt_M588) (x := 4100) (c := 12) (o := 0) kX13_useAction_c33.2.2.2.1 wf_X13_193 (.inl rfl) ?_
    refine kz_iload_n (M := kt_M588) kX13_useAction_c33.2.2.2.2.1 rfl ?_
    refine kz_iald (M := kt_M588) (c := 12) (o := 0) (k := 28) (a := (E.2.1 4100)) kX13_useAction_c33.2.2.2.2.2.1 ow_12_0_28 oa_12_0_28 ot_0 h (fun h => ?_)
    refine kz_aload_n (M := kt_M588) kX13_useAction_c33.2.2.2.2.2.2.1 rfl ?_
    refine kz_gfc (M := kt_M588) (x := 4099) (c := 12) (o := 0) kX13_useAction_c33.2.2.2.2.2.2.2.1 wf_X13_190 (.inl rfl) ?_
    refine kz_iload_n (M := kt_M588) kX13_useAction_c34.1 rfl ?_
    refine kz_iald (M := kt_M588) (c := 12) (o := 0) (k := 27) (a := (E.2.1 4099)) kX13_useAction_c34.2.1 ow_12_0_27 oa_12_0_27 ot_0 h (fun h => ?_)
    refine kz_cv0 (M := kt_M588) (c := 12) (o := 0) (As := [.int (w_a w 12 0 28 (x3).toNatClampNeg), .int (w_a w 12 0 27 (x3).toNatClampNeg)]) (rest := []) kX13_useAction_c34.2.2.1 wl_X13_1034 wMv_592 rfl (.inl rfl) rfl (Nat.le_trans (Nat.le_of_ble_eq_true rfl) hL) (Nat.le_of_ble_eq_true rfl) (Nat.le_of_ble_eq_true rfl) h (fun w1 hle h => ?_) (fun _ _ _ h => kzx_no rfl h)
    have h := h hle
    refine kz_aload_n (M := kt_M588) kX13_useAction_c34.2.2.2.1 rfl ?_
    refine kz_aload_n (M := kt_M588) kX13_useAction_c34.2.2.2.2.1 rfl ?_
    refine kz_gfc (M := kt_M588) (x := 4101) (c := 12) (o := 0) kX13_useAction_c34.2.2.2.2.2.1 wf_X13_196 (.inl rfl) ?_
    refine kz_iload_n (M := kt_M588) kX13_useAction_c34.2.2.2.2.2.2.1 rfl ?_
    refine kz_iald (M := kt_M588) (c := 12) (o := 0) (k := 29) (a := (E.2.1 4101)) kX13_useAction_c34.2.2.2.2.2.2.2.1 ow_12_0_29 oa_12_0_29 ot_0 h (fun h => ?_)
    refine kz_cv0 (M := kt_M588) (c := 12) (o := 0) (As := [.int (w_a w1 12 0 29 (x3).toNatClampNeg)]) (rest := []) kX13_useAction_c35.1 wl_X13_1052 wMv_589 rfl (.inl rfl) rfl (Nat.le_trans (Nat.le_of_ble_eq_true rfl) hL) (Nat.le_of_ble_eq_true rfl) (Nat.le_of_ble_eq_true rfl) h (fun w3 hle h => ?_) (fun _ _ _ h => kzx_no rfl h)
    have h := h hle
    refine kz_aload_n (M := kt_M588) kX13_useAction_c35.2.1 rfl ?_
    refine kz_gfc (M := kt_M588) (x := 4104) (c := 12) (o := 0) kX13_useAction_c35.2.2.1 wf_X13_205 (.inl rfl) ?_
    refine kz_iload_n (M := kt_M588) kX13_useAction_c35.2.2.2.1 rfl ?_
    refine kz_iald (M := kt_M588) (c := 12) (o := 0) (k := 32) (a := (E.2.1 4104)) kX13_useAction_c35.2.2.2.2.1 ow_12_0_32 oa_12_0_32 ot_0 h (fun h => ?_)
    refine kz_sti_n (M := kt_M588) [(0, .ref (w_adr E.2.1 12 0))] kX13_useAction_c35.2.2.2.2.2.1 (Nat.le_of_ble_eq_true rfl) ⟨⟨rfl, rfl, .inl rfl⟩, trivial⟩ rfl ?_
    refine kz_goto (M := kt_M588) kX13_useAction_c35.2.2.2.2.2.2.1 (t := 496) rfl ?_
    exact kz_weak [(0, .ref (w_adr E.2.1 12 0)), (3, .int (w_a w3 12 0 32 (x3).toNatClampNeg))] ⟨rfl, ⟨rfl, trivial⟩⟩ rfl h
def zb_X13_useAction_p469 (E : zE) (L : Nat) (Q : kx_Rs → wS → Prop) (x3 : Int32) (w : wS) : Prop := (if x3 < 0 then Q (.inl none) w else zw E (L - 21) kt_M589 [.ref (w_adr E.2.1 12 0), .int x3] w (wk0 (fun w1 => wle w w1 → (kx_inb x3 (w_n w1 12 0 32) = true ∧ zL_X13_useAction_p469 E L Q (w_a w1 12 0 32 (x3).toNatClampNeg) w1)) (fun e w => Q (.inr e) w)))
theorem zt_X13_useAction_p469 {E : zE} {L : Nat} {Q : kx_Rs → wS → Prop} {x3 : Int32} {w : wS} (hL : 24 ≤ L) (h : zb_X13_useAction_p469 E L Q x3 w) : kzE E L kt_M588 469 [(0, .ref (w_adr E.2.1 12 0)), (3, .int x3)] [] w Q := by
  unfold zb_X13_useAction_p469 at h
  refine kz_iload_n (M := kt_M588) kX13_useAction_c30.2.2.2.2.2.2.1 rfl ?_
  refine kz_if_lt (M := kt_M588) kX13_useAction_c30.2.2.2.2.2.2.2.1 (t := 488) rfl h (fun h => ?_) (fun h => ?_)
  · skip
    exact kz_ret (M := kt_M588) kX13_useAction_c32.2.1 rfl h
  · skip
    refine kz_aload_n (M := kt_M588) kX13_useAction_c31.1 rfl ?_
    refine kz_iload_n (M := kt_M588) kX13_useAction_c31.2.1 rfl ?_
    refine kz_cv0 (M := kt_M588) (c := 12) (o := 0) (As := [.int x3]) (rest := []) kX13_useAction_c31.2.2.1 wl_X13_1052 wMv_589 rfl (.inl rfl) rfl (Nat.le_trans (Nat.le_of_ble_eq_true rfl) hL) (Nat.le_of_ble_eq_true rfl) (Nat.le_of_ble_eq_true rfl) h (fun w1 hle h => ?_) (fun _ _ _ h => kzx_no rfl h)
    have h := h hle
    refine kz_aload_n (M := kt_M588) kX13_useAction_c31.2.2.2.1 rfl ?_
    refine kz_gfc (M := kt_M588) (x := 4104) (c := 12) (o := 0) kX13_useAction_c31.2.2.2.2.1 wf_X13_205 (.inl rfl) ?_
    refine kz_iload_n (M := kt_M588) kX13_useAction_c31.2.2.2.2.2.1 rfl ?_
    refine kz_iald (M := kt_M588) (c := 12) (o := 0) (k := 32) (a := (E.2.1 4104)) kX13_useAction_c31.2.2.2.2.2.2.1 ow_12_0_32 oa_12_0_32 ot_0 h (fun h => ?_)
    refine kz_sti_n (M := kt_M588) [(0, .ref (w_adr E.2.1 12 0))] kX13_useAction_c31.2.2.2.2.2.2.2.1 (Nat.le_of_ble_eq_true rfl) ⟨⟨rfl, rfl, .inl rfl⟩, trivial⟩ rfl ?_
    refine kz_goto (M := kt_M588) kX13_useAction_c32.1 (t := 469) rfl ?_
    exact kz_weak [(0, .ref (w_adr E.2.1 12 0)), (3, .int (w_a w1 12 0 32 (x3).toNatClampNeg))] ⟨rfl, ⟨rfl, trivial⟩⟩ rfl h
def zb_X13_useAction_p462 (E : zE) (L : Nat) (Q : kx_Rs → wS → Prop) (x1 : Int32) (w : wS) : Prop := (kx_inb x1 (w_n w 12 0 29) = true ∧ zL_X13_useAction_p469 E L Q (w_a w 12 0 29 (x1).toNatClampNeg) w)
theorem zt_X13_useAction_p462 {E : zE} {L : Nat} {Q : kx_Rs → wS → Prop} {x1 : Int32} {w : wS} (hL : 24 ≤ L) (h : zb_X13_useAction_p462 E L Q x1 w) : kzE E L kt_M588 462 [(0, .ref (w_adr E.2.1 12 0)), (1, .int x1)] [] w Q := by
  unfold zb_X13_useAction_p462 at h
  refine kz_aload_n (M := kt_M588) kX13_useAction_c30.2.1 rfl ?_
  refine kz_gfc (M := kt_M588) (x := 4101) (c := 12) (o := 0) kX13_useAction_c30.2.2.1 wf_X13_196 (.inl rfl) ?_
  refine kz_iload_n (M := kt_M588) kX13_useAction_c30.2.2.2.1 rfl ?_
  refine kz_iald (M := kt_M588) (c := 12) (o := 0) (k := 29) (a := (E.2.1 4101)) kX13_useAction_c30.2.2.2.2.1 ow_12_0_29 oa_12_0_29 ot_0 h (fun h => ?_)
  refine kz_sti_n (M := kt_M588) [(0, .ref (w_adr E.2.1 12 0))] kX13_useAction_c30.2.2.2.2.2.1 (Nat.le_of_ble_eq_true rfl) ⟨⟨rfl, rfl, .inl rfl⟩, trivial⟩ rfl ?_
  exact kz_weak [(0, .ref (w_adr E.2.1 12 0)), (3, .int (w_a w 12 0 29 (x1).toNatClampNeg))] ⟨rfl, ⟨rfl, trivial⟩⟩ rfl h
def zb_X13_useAction_p418 (E : zE) (L : Nat) (Q : kx_Rs → wS → Prop) (x1 : Int32) (x2 : Int32) (y0 : Int32) (w : wS) : Prop := ((y0 = 0 ∨ y0 = 1) ∧ (kx_inb x1 (w_n w 12 0 28) = true ∧ (if w_a w 12 0 28 (x1).toNatClampNeg < 0 then zb_X13_useAction_p462 E L Q x1 (ws_i w 12 0 88 y0) else (kx_inb x1 (w_n w 12 0 28) = true ∧ (kx_inb (w_a w 12 0 28 (x1).toNatClampNeg) (w_n w 12 0 28) = true ∧ zw E (L - 23) kt_M592 [.ref (w_adr E.2.1 12 0), .int (w_a w 12 0 28 (w_a w 12 0 28 (x1).toNatClampNeg).toNatClampNeg), .int x2] (ws_i w 12 0 88 y0) (wk0 (fun w1 => wle (ws_i w 12 0 88 y0) w1 → (kx_inb x1 (w_n w1 12 0 28) = true ∧ (kx_inb (w_a w1 12 0 28 (x1).toNatClampNeg) (w_n w1 12 0 29) = true ∧ zw E (L - 23) kt_M592 [.ref (w_adr E.2.1 12 0), .int (w_a w1 12 0 29 (w_a w1 12 0 28 (x1).toNatClampNeg).toNatClampNeg), .int x2] w1 (wk0 (fun w3 => wle w1 w3 → zb_X13_useAction_p462 E L Q x1 w3) (fun e w => Q (.inr e) w))))) (fun e w => Q (.inr e) w)))))))
theorem zt_X13_useAction_p418 {E : zE} {L : Nat} {Q : kx_Rs → wS → Prop} {x1 : Int32} {x2 : Int32} {y0 : Int32} {w : wS} (hL : 24 ≤ L) (h : zb_X13_useAction_p418 E L Q x1 x2 y0 w) : kzE E L kt_M588 418 [(0, .ref (w_adr E.2.1 12 0)), (1, .int x1), (2, .int x2)] [.int y0, .ref (w_adr E.2.1 12 0)] w Q := by
  unfold zb_X13_useAction_p418 at h
  obtain ⟨h0, h⟩ := h
  refine kz_pfz (M := kt_M588) (c := 12) (o := 0) kX13_useAction_c26.2.2.2.2.2.2.2.1 wq_X13_1049 (.inl rfl) h0 ?_
  refine kz_aload_n (M := kt_M588) kX13_useAction_c27.1 rfl ?_
  refine kz_gfc (M := kt_M588) (x := 4100) (c := 12) (o := 0) kX13_useAction_c27.2.1 wf_X13_193 (.inl rfl) ?_
  refine kz_iload_n (M := kt_M588) kX13_useAction_c27.2.2.1 rfl ?_
  refine kz_ialdR (M := kt_M588) (n := w_n w 12 0 28) (c := 12) (o := 0) (k := 28) (a := (E.2.1 4100)) (w_a w 12 0 28 (x1).toNatClampNeg) kX13_useAction_c27.2.2.2.1 ow_12_0_28 oa_12_0_28 ot_0 rd_n_i rd_a_i h (fun h => ?_)
  refine kz_if_lt (M := kt_M588) kX13_useAction_c27.2.2.2.2.1 (t := 462) rfl h (fun h => ?_) (fun h => ?_)
  · skip
    exact kz_weak [(0, .ref (w_adr E.2.1 12 0)), (1, .int x1)] ⟨rfl, ⟨rfl, trivial⟩⟩ rfl (zt_X13_useAction_p462 hL  h)
  · skip
    refine kz_aload_n (M := kt_M588) kX13_useAction_c27.2.2.2.2.2.1 rfl ?_
    refine kz_aload_n (M := kt_M588) kX13_useAction_c27.2.2.2.2.2.2.1 rfl ?_
    refine kz_gfc (M := kt_M588) (x := 4100) (c := 12) (o := 0) kX13_useAction_c27.2.2.2.2.2.2.2.1 wf_X13_193 (.inl rfl) ?_
    refine kz_aload_n (M := kt_M588) kX13_useAction_c28.1 rfl ?_
    refine kz_gfc (M := kt_M588) (x := 4100) (c := 12) (o := 0) kX13_useAction_c28.2.1 wf_X13_193 (.inl rfl) ?_
    refine kz_iload_n (M := kt_M588) kX13_useAction_c28.2.2.1 rfl ?_
    refine kz_ialdR (M := kt_M588) (n := w_n w 12 0 28) (c := 12) (o := 0) (k := 28) (a := (E.2.1 4100)) (w_a w 12 0 28 (x1).toNatClampNeg) kX13_useAction_c28.2.2.2.1 ow_12_0_28 oa_12_0_28 ot_0 rd_n_i rd_a_i h (fun h => ?_)
    refine kz_ialdR (M := kt_M588) (n := w_n w 12 0 28) (c := 12) (o := 0) (k := 28) (a := (E.2.1 4100)) (w_a w 12 0 28 (w_a w 12 0 28 (x1).toNatClampNeg).toNatClampNeg) kX13_useAction_c28.2.2.2.2.1 ow_12_0_28 oa_12_0_28 ot_0 rd_n_i rd_a_i h (fun h => ?_)
    refine kz_iload_n (M := kt_M588) kX13_useAction_c28.2.2.2.2.2.1 rfl ?_
    refine kz_cv0 (M := kt_M588) (c := 12) (o := 0) (As := [.int (w_a w 12 0 28 (w_a w 12 0 28 (x1).toNatClampNeg).toNatClampNeg), .int x2]) (rest := []) kX13_useAction_c28.2.2.2.2.2.2.1 wl_X13_1034 wMv_592 rfl (.inl rfl) rfl (Nat.le_trans (Nat.le_of_ble_eq_true rfl) hL) (Nat.le_of_ble_eq_true rfl) (Nat.le_of_ble_eq_true rfl) h (fun w1 hle h => ?_) (fun _ _ _ h => kzx_no rfl h)
    have h := h hle
    refine kz_aload_n (M := kt_M588) kX13_useAction_c28.2.2.2.2.2.2.2.1 rfl ?_
    refine kz_aload_n (M := kt_M588) kX13_useAction_c29.1 rfl ?_
    refine kz_gfc (M := kt_M588) (x := 4101) (c := 12) (o := 0) kX13_useAction_c29.2.1 wf_X13_196 (.inl rfl) ?_
    refine kz_aload_n (M := kt_M588) kX13_useAction_c29.2.2.1 rfl ?_
    refine kz_gfc (M := kt_M588) (x := 4100) (c := 12) (o := 0) kX13_useAction_c29.2.2.2.1 wf_X13_193 (.inl rfl) ?_
    refine kz_iload_n (M := kt_M588) kX13_useAction_c29.2.2.2.2.1 rfl ?_
    refine kz_iald (M := kt_M588) (c := 12) (o := 0) (k := 28) (a := (E.2.1 4100)) kX13_useAction_c29.2.2.2.2.2.1 ow_12_0_28 oa_12_0_28 ot_0 h (fun h => ?_)
    refine kz_iald (M := kt_M588) (c := 12) (o := 0) (k := 29) (a := (E.2.1 4101)) kX13_useAction_c29.2.2.2.2.2.2.1 ow_12_0_29 oa_12_0_29 ot_0 h (fun h => ?_)
    refine kz_iload_n (M := kt_M588) kX13_useAction_c29.2.2.2.2.2.2.2.1 rfl ?_
    refine kz_cv0 (M := kt_M588) (c := 12) (o := 0) (As := [.int (w_a w1 12 0 29 (w_a w1 12 0 28 (x1).toNatClampNeg).toNatClampNeg), .int x2]) (rest := []) kX13_useAction_c30.1 wl_X13_1034 wMv_592 rfl (.inl rfl) rfl (Nat.le_trans (Nat.le_of_ble_eq_true rfl) hL) (Nat.le_of_ble_eq_true rfl) (Nat.le_of_ble_eq_true rfl) h (fun w3 hle h => ?_) (fun _ _ _ h => kzx_no rfl h)
    have h := h hle
    exact kz_weak [(0, .ref (w_adr E.2.1 12 0)), (1, .int x1)] ⟨rfl, ⟨rfl, trivial⟩⟩ rfl (zt_X13_useAction_p462 hL  h)
def zb_X13_useAction_p413 (E : zE) (L : Nat) (Q : kx_Rs → wS → Prop) (x1 : Int32) (x2 : Int32) (w : wS) : Prop := zb_X13_useAction_p418 E L Q x1 x2 1 w
theorem zt_X13_useAction_p413 {E : zE} {L : Nat} {Q : kx_Rs → wS → Prop} {x1 : Int32} {x2 : Int32} {w : wS} (hL : 24 ≤ L) (h : zb_X13_useAction_p413 E L Q x1 x2 w) : kzE E L kt_M588 413 [(0, .ref (w_adr E.2.1 12 0)), (1, .int x1), (2, .int x2)] [.ref (w_adr E.2.1 12 0)] w Q := by
  unfold zb_X13_useAction_p413 at h
  refine kz_ic (M := kt_M588) 1 kX13_useAction_c26.2.2.2.2.1 rfl ?_
  refine kz_goto (M := kt_M588) kX13_useAction_c26.2.2.2.2.2.1 (t := 418) rfl ?_
  exact kz_weak [(0, .ref (w_adr E.2.1 12 0)), (1, .int x1), (2, .int x2)] ⟨rfl, ⟨rfl, ⟨rfl, trivial⟩⟩⟩ rfl (zt_X13_useAction_p418 hL  h)
def zb_X13_useAction_p367 (E : zE) (L : Nat) (Q : kx_Rs → wS → Prop) (x2 : Int32) (x3 : Int32) (w : wS) : Prop := (if x3 < 0 then Q (.inl none) w else zw E (L - 23) kt_M592 [.ref (w_adr E.2.1 12 0), .int x3, .int x2] w (wk0 (fun w1 => wle w w1 → (kx_inb x3 (w_n w1 12 0 32) = true ∧ zL_X13_useAction_p367 E L Q x2 (w_a w1 12 0 32 (x3).toNatClampNeg) w1)) (fun e w => Q (.inr e) w)))
theorem zt_X13_useAction_p367 {E : zE} {L : Nat} {Q : kx_Rs → wS → Prop} {x2 : Int32} {x3 : Int32} {w : wS} (hL : 24 ≤ L) (h : zb_X13_useAction_p367 E L Q x2 x3 w) : kzE E L kt_M588 367 [(0, .ref (w_adr E.2.1 12 0)), (2, .int x2), (3, .int x3)] [] w Q := by
  unfold zb_X13_useAction_p367 at h
  refine kz_iload_n (M := kt_M588) kX13_useAction_c23.2.1 rfl ?_
  refine kz_if_lt (M := kt_M588) kX13_useAction_c23.2.2.1 (t := 387) rfl h (fun h => ?_) (fun h => ?_)
  · skip
    exact kz_ret (M := kt_M588) kX13_useAction_c24.2.2.2.2.2.1 rfl h
  · skip
    refine kz_aload_n (M := kt_M588) kX13_useAction_c23.2.2.2.1 rfl ?_
    refine kz_iload_n (M := kt_M588) kX13_useAction_c23.2.2.2.2.1 rfl ?_
    refine kz_iload_n (M := kt_M588) kX13_useAction_c23.2.2.2.2.2.1 rfl ?_
    refine kz_cv0 (M := kt_M588) (c := 12) (o := 0) (As := [.int x3, .int x2]) (rest := []) kX13_useAction_c23.2.2.2.2.2.2.1 wl_X13_1034 wMv_592 rfl (.inl rfl) rfl (Nat.le_trans (Nat.le_of_ble_eq_true rfl) hL) (Nat.le_of_ble_eq_true rfl) (Nat.le_of_ble_eq_true rfl) h (fun w1 hle h => ?_) (fun _ _ _ h => kzx_no rfl h)
    have h := h hle
    refine kz_aload_n (M := kt_M588) kX13_useAction_c23.2.2.2.2.2.2.2.1 rfl ?_
    refine kz_gfc (M := kt_M588) (x := 4104) (c := 12) (o := 0) kX13_useAction_c24.1 wf_X13_205 (.inl rfl) ?_
    refine kz_iload_n (M := kt_M588) kX13_useAction_c24.2.1 rfl ?_
    refine kz_iald (M := kt_M588) (c := 12) (o := 0) (k := 32) (a := (E.2.1 4104)) kX13_useAction_c24.2.2.1 ow_12_0_32 oa_12_0_32 ot_0 h (fun h => ?_)
    refine kz_sti_n (M := kt_M588) [(0, .ref (w_adr E.2.1 12 0)), (2, .int x2)] kX13_useAction_c24.2.2.2.1 (Nat.le_of_ble_eq_true rfl) ⟨⟨rfl, rfl, .inl rfl⟩, ⟨⟨rfl, rfl, .inr rfl⟩, trivial⟩⟩ rfl ?_
    refine kz_goto (M := kt_M588) kX13_useAction_c24.2.2.2.2.1 (t := 367) rfl ?_
    exact kz_weak [(0, .ref (w_adr E.2.1 12 0)), (2, .int x2), (3, .int (w_a w1 12 0 32 (x3).toNatClampNeg))] ⟨rfl, ⟨rfl, ⟨rfl, trivial⟩⟩⟩ rfl h
def zb_X13_useAction_p366 (E : zE) (L : Nat) (Q : kx_Rs → wS → Prop) (x2 : Int32) (y0 : Int32) (w : wS) : Prop := zL_X13_useAction_p367 E L Q x2 y0 w
theorem zt_X13_useAction_p366 {E : zE} {L : Nat} {Q : kx_Rs → wS → Prop} {x2 : Int32} {y0 : Int32} {w : wS} (hL : 24 ≤ L) (h : zb_X13_useAction_p366 E L Q x2 y0 w) : kzE E L kt_M588 366 [(0, .ref (w_adr E.2.1 12 0)), (2, .int x2)] [.int y0] w Q := by
  unfold zb_X13_useAction_p366 at h
  refine kz_sti_n (M := kt_M588) [(0, .ref (w_adr E.2.1 12 0)), (2, .int x2)] kX13_useAction_c23.1 (Nat.le_of_ble_eq_true rfl) ⟨⟨rfl, rfl, .inl rfl⟩, ⟨⟨rfl, rfl, .inr rfl⟩, trivial⟩⟩ rfl ?_
  exact kz_weak [(0, .ref (w_adr E.2.1 12 0)), (2, .int x2), (3, .int y0)] ⟨rfl, ⟨rfl, ⟨rfl, trivial⟩⟩⟩ rfl h
def zb_X13_useAction_p259 (E : zE) (L : Nat) (Q : kx_Rs → wS → Prop) (x3 : Int32) (x4 : Int32) (w : wS) : Prop := (if x4 < 0 then (kx_inb x3 (w_n w 12 0 30) = true ∧ zw E (L - 21) kt_M589 [.ref (w_adr E.2.1 12 0), .int (w_a w 12 0 30 (x3).toNatClampNeg)] w (wk0 (fun w1 => wle w w1 → (kx_inb x3 (w_n w1 12 0 32) = true ∧ zL_X13_useAction_p247 E L Q (w_a w1 12 0 32 (x3).toNatClampNeg) w1)) (fun e w => Q (.inr e) w))) else (kx_inb x3 (w_n w 12 0 27) = true ∧ zw E (L - 23) kt_M388 [.ref (w_adr E.2.1 12 0), .int x4, .int 2, .int (w_a w 12 0 27 (x3).toNatClampNeg)] w (wk0 (fun w3 => wle w w3 → (kx_inb x4 (w_n w3 12 0 32) = true ∧ zL_X13_useAction_p259 E L Q x3 (w_a w3 12 0 32 (x4).toNatClampNeg) w3)) (fun e w => Q (.inr e) w))))
theorem zt_X13_useAction_p259 {E : zE} {L : Nat} {Q : kx_Rs → wS → Prop} {x3 : Int32} {x4 : Int32} {w : wS} (hL : 24 ≤ L) (h : zb_X13_useAction_p259 E L Q x3 x4 w) : kzE E L kt_M588 259 [(0, .ref (w_adr E.2.1 12 0)), (3, .int x3), (4, .int x4)] [] w Q := by
  unfold zb_X13_useAction_p259 at h
  refine kz_iload (M := kt_M588) kX13_useAction_c15.2.2.1 rfl ?_
  refine kz_if_lt (M := kt_M588) kX13_useAction_c15.2.2.2.1 (t := 289) rfl h (fun h => ?_) (fun h => ?_)
  · skip
    refine kz_aload_n (M := kt_M588) kX13_useAction_c17.2.2.1 rfl ?_
    refine kz_aload_n (M := kt_M588) kX13_useAction_c17.2.2.2.1 rfl ?_
    refine kz_gfc (M := kt_M588) (x := 4102) (c := 12) (o := 0) kX13_useAction_c17.2.2.2.2.1 wf_X13_199 (.inl rfl) ?_
    refine kz_iload_n (M := kt_M588) kX13_useAction_c17.2.2.2.2.2.1 rfl ?_
    refine kz_iald (M := kt_M588) (c := 12) (o := 0) (k := 30) (a := (E.2.1 4102)) kX13_useAction_c17.2.2.2.2.2.2.1 ow_12_0_30 oa_12_0_30 ot_0 h (fun h => ?_)
    refine kz_cv0 (M := kt_M588) (c := 12) (o := 0) (As := [.int (w_a w 12 0 30 (x3).toNatClampNeg)]) (rest := []) kX13_useAction_c17.2.2.2.2.2.2.2.1 wl_X13_1052 wMv_589 rfl (.inl rfl) rfl (Nat.le_trans (Nat.le_of_ble_eq_true rfl) hL) (Nat.le_of_ble_eq_true rfl) (Nat.le_of_ble_eq_true rfl) h (fun w1 hle h => ?_) (fun _ _ _ h => kzx_no rfl h)
    have h := h hle
    refine kz_aload_n (M := kt_M588) kX13_useAction_c18.1 rfl ?_
    refine kz_gfc (M := kt_M588) (x := 4104) (c := 12) (o := 0) kX13_useAction_c18.2.1 wf_X13_205 (.inl rfl) ?_
    refine kz_iload_n (M := kt_M588) kX13_useAction_c18.2.2.1 rfl ?_
    refine kz_iald (M := kt_M588) (c := 12) (o := 0) (k := 32) (a := (E.2.1 4104)) kX13_useAction_c18.2.2.2.1 ow_12_0_32 oa_12_0_32 ot_0 h (fun h => ?_)
    refine kz_sti_n (M := kt_M588) [(0, .ref (w_adr E.2.1 12 0))] kX13_useAction_c18.2.2.2.2.1 (Nat.le_of_ble_eq_true rfl) ⟨⟨rfl, rfl, .inl rfl⟩, trivial⟩ rfl ?_
    refine kz_goto (M := kt_M588) kX13_useAction_c18.2.2.2.2.2.1 (t := 247) rfl ?_
    exact kz_weak [(0, .ref (w_adr E.2.1 12 0)), (3, .int (w_a w1 12 0 32 (x3).toNatClampNeg))] ⟨rfl, ⟨rfl, trivial⟩⟩ rfl h
  · skip
    refine kz_aload_n (M := kt_M588) kX13_useAction_c15.2.2.2.2.1 rfl ?_
    refine kz_iload (M := kt_M588) kX13_useAction_c15.2.2.2.2.2.1 rfl ?_
    refine kz_ic (M := kt_M588) 2 kX13_useAction_c15.2.2.2.2.2.2.1 rfl ?_
    refine kz_aload_n (M := kt_M588) kX13_useAction_c15.2.2.2.2.2.2.2.1 rfl ?_
    refine kz_gfc (M := kt_M588) (x := 4099) (c := 12) (o := 0) kX13_useAction_c16.1 wf_X13_190 (.inl rfl) ?_
    refine kz_iload_n (M := kt_M588) kX13_useAction_c16.2.1 rfl ?_
    refine kz_iald (M := kt_M588) (c := 12) (o := 0) (k := 27) (a := (E.2.1 4099)) kX13_useAction_c16.2.2.1 ow_12_0_27 oa_12_0_27 ot_0 h (fun h => ?_)
    refine kz_cv0 (M := kt_M588) (c := 12) (o := 0) (As := [.int x4, .int 2, .int (w_a w 12 0 27 (x3).toNatClampNeg)]) (rest := []) kX13_useAction_c16.2.2.2.1 wl_X13_1040 wMv_388 rfl (.inl rfl) rfl (Nat.le_trans (Nat.le_of_ble_eq_true rfl) hL) (Nat.le_of_ble_eq_true rfl) (Nat.le_of_ble_eq_true rfl) h (fun w3 hle h => ?_) (fun _ _ _ h => kzx_no rfl h)
    have h := h hle
    refine kz_aload_n (M := kt_M588) kX13_useAction_c16.2.2.2.2.1 rfl ?_
    refine kz_gfc (M := kt_M588) (x := 4104) (c := 12) (o := 0) kX13_useAction_c16.2.2.2.2.2.1 wf_X13_205 (.inl rfl) ?_
    refine kz_iload (M := kt_M588) kX13_useAction_c16.2.2.2.2.2.2.1 rfl ?_
    refine kz_iald (M := kt_M588) (c := 12) (o := 0) (k := 32) (a := (E.2.1 4104)) kX13_useAction_c16.2.2.2.2.2.2.2.1 ow_12_0_32 oa_12_0_32 ot_0 h (fun h => ?_)
    refine kz_sti (M := kt_M588) [(0, .ref (w_adr E.2.1 12 0)), (3, .int x3)] kX13_useAction_c17.1 (Nat.le_of_ble_eq_true rfl) ⟨⟨rfl, rfl, .inl rfl⟩, ⟨⟨rfl, rfl, .inr rfl⟩, trivial⟩⟩ rfl ?_
    refine kz_goto (M := kt_M588) kX13_useAction_c17.2.1 (t := 259) rfl ?_
    exact kz_weak [(0, .ref (w_adr E.2.1 12 0)), (3, .int x3), (4, .int (w_a w3 12 0 32 (x4).toNatClampNeg))] ⟨rfl, ⟨rfl, ⟨rfl, trivial⟩⟩⟩ rfl h
def zb_X13_useAction_p247 (E : zE) (L : Nat) (Q : kx_Rs → wS → Prop) (x3 : Int32) (w : wS) : Prop := (if x3 < 0 then Q (.inl none) w else (kx_inb x3 (w_n w 12 0 29) = true ∧ zL_X13_useAction_p259 E L Q x3 (w_a w 12 0 29 (x3).toNatClampNeg) w))
theorem zt_X13_useAction_p247 {E : zE} {L : Nat} {Q : kx_Rs → wS → Prop} {x3 : Int32} {w : wS} (hL : 24 ≤ L) (h : zb_X13_useAction_p247 E L Q x3 w) : kzE E L kt_M588 247 [(0, .ref (w_adr E.2.1 12 0)), (3, .int x3)] [] w Q := by
  unfold zb_X13_useAction_p247 at h
  refine kz_iload_n (M := kt_M588) kX13_useAction_c14.2.2.2.1 rfl ?_
  refine kz_if_lt (M := kt_M588) kX13_useAction_c14.2.2.2.2.1 (t := 309) rfl h (fun h => ?_) (fun h => ?_)
  · skip
    exact kz_ret (M := kt_M588) kX13_useAction_c18.2.2.2.2.2.2.1 rfl h
  · skip
    refine kz_aload_n (M := kt_M588) kX13_useAction_c14.2.2.2.2.2.1 rfl ?_
    refine kz_gfc (M := kt_M588) (x := 4101) (c := 12) (o := 0) kX13_useAction_c14.2.2.2.2.2.2.1 wf_X13_196 (.inl rfl) ?_
    refine kz_iload_n (M := kt_M588) kX13_useAction_c14.2.2.2.2.2.2.2.1 rfl ?_
    refine kz_iald (M := kt_M588) (c := 12) (o := 0) (k := 29) (a := (E.2.1 4101)) kX13_useAction_c15.1 ow_12_0_29 oa_12_0_29 ot_0 h (fun h => ?_)
    refine kz_sti (M := kt_M588) [(0, .ref (w_adr E.2.1 12 0)), (3, .int x3)] kX13_useAction_c15.2.1 (Nat.le_of_ble_eq_true rfl) ⟨⟨rfl, rfl, .inl rfl⟩, ⟨⟨rfl, rfl, .inr rfl⟩, trivial⟩⟩ rfl ?_
    exact kz_weak [(0, .ref (w_adr E.2.1 12 0)), (3, .int x3), (4, .int (w_a w 12 0 29 (x3).toNatClampNeg))] ⟨rfl, ⟨rfl, ⟨rfl, trivial⟩⟩⟩ rfl h
def zb_X13_useAction_p184 (E : zE) (L : Nat) (Q : kx_Rs → wS → Prop) (x2 : Int32) (x3 : Int32) (w : wS) : Prop := (if x3 < 0 then Q (.inl none) w else zw E (L - 23) kt_M388 [.ref (w_adr E.2.1 12 0), .int x3, .int 2, .int x2] w (wk0 (fun w1 => wle w w1 → (kx_inb x3 (w_n w1 12 0 32) = true ∧ zL_X13_useAction_p184 E L Q x2 (w_a w1 12 0 32 (x3).toNatClampNeg) w1)) (fun e w => Q (.inr e) w)))
theorem zt_X13_useAction_p184 {E : zE} {L : Nat} {Q : kx_Rs → wS → Prop} {x2 : Int32} {x3 : Int32} {w : wS} (hL : 24 ≤ L) (h : zb_X13_useAction_p184 E L Q x2 x3 w) : kzE E L kt_M588 184 [(0, .ref (w_adr E.2.1 12 0)), (2, .int x2), (3, .int x3)] [] w Q := by
  unfold zb_X13_useAction_p184 at h
  refine kz_iload_n (M := kt_M588) kX13_useAction_c9.2.2.1 rfl ?_
  refine kz_if_lt (M := kt_M588) kX13_useAction_c9.2.2.2.1 (t := 205) rfl h (fun h => ?_) (fun h => ?_)
  · skip
    exact kz_ret (M := kt_M588) kX13_useAction_c10.2.2.2.2.2.2.2.1 rfl h
  · skip
    refine kz_aload_n (M := kt_M588) kX13_useAction_c9.2.2.2.2.1 rfl ?_
    refine kz_iload_n (M := kt_M588) kX13_useAction_c9.2.2.2.2.2.1 rfl ?_
    refine kz_ic (M := kt_M588) 2 kX13_useAction_c9.2.2.2.2.2.2.1 rfl ?_
    refine kz_iload_n (M := kt_M588) kX13_useAction_c9.2.2.2.2.2.2.2.1 rfl ?_
    refine kz_cv0 (M := kt_M588) (c := 12) (o := 0) (As := [.int x3, .int 2, .int x2]) (rest := []) kX13_useAction_c10.1 wl_X13_1040 wMv_388 rfl (.inl rfl) rfl (Nat.le_trans (Nat.le_of_ble_eq_true rfl) hL) (Nat.le_of_ble_eq_true rfl) (Nat.le_of_ble_eq_true rfl) h (fun w1 hle h => ?_) (fun _ _ _ h => kzx_no rfl h)
    have h := h hle
    refine kz_aload_n (M := kt_M588) kX13_useAction_c10.2.1 rfl ?_
    refine kz_gfc (M := kt_M588) (x := 4104) (c := 12) (o := 0) kX13_useAction_c10.2.2.1 wf_X13_205 (.inl rfl) ?_
    refine kz_iload_n (M := kt_M588) kX13_useAction_c10.2.2.2.1 rfl ?_
    refine kz_iald (M := kt_M588) (c := 12) (o := 0) (k := 32) (a := (E.2.1 4104)) kX13_useAction_c10.2.2.2.2.1 ow_12_0_32 oa_12_0_32 ot_0 h (fun h => ?_)
    refine kz_sti_n (M := kt_M588) [(0, .ref (w_adr E.2.1 12 0)), (2, .int x2)] kX13_useAction_c10.2.2.2.2.2.1 (Nat.le_of_ble_eq_true rfl) ⟨⟨rfl, rfl, .inl rfl⟩, ⟨⟨rfl, rfl, .inr rfl⟩, trivial⟩⟩ rfl ?_
    refine kz_goto (M := kt_M588) kX13_useAction_c10.2.2.2.2.2.2.1 (t := 184) rfl ?_
    exact kz_weak [(0, .ref (w_adr E.2.1 12 0)), (2, .int x2), (3, .int (w_a w1 12 0 32 (x3).toNatClampNeg))] ⟨rfl, ⟨rfl, ⟨rfl, trivial⟩⟩⟩ rfl h
def zb_X13_useAction_p177 (E : zE) (L : Nat) (Q : kx_Rs → wS → Prop) (x1 : Int32) (x2 : Int32) (w : wS) : Prop := (kx_inb x1 (w_n w 12 0 29) = true ∧ zL_X13_useAction_p184 E L Q x2 (w_a w 12 0 29 (x1).toNatClampNeg) w)
theorem zt_X13_useAction_p177 {E : zE} {L : Nat} {Q : kx_Rs → wS → Prop} {x1 : Int32} {x2 : Int32} {w : wS} (hL : 24 ≤ L) (h : zb_X13_useAction_p177 E L Q x1 x2 w) : kzE E L kt_M588 177 [(0, .ref (w_adr E.2.1 12 0)), (1, .int x1), (2, .int x2)] [] w Q := by
  unfold zb_X13_useAction_p177 at h
  refine kz_aload_n (M := kt_M588) kX13_useAction_c8.2.2.2.2.2.1 rfl ?_
  refine kz_gfc (M := kt_M588) (x := 4101) (c := 12) (o := 0) kX13_useAction_c8.2.2.2.2.2.2.1 wf_X13_196 (.inl rfl) ?_
  refine kz_iload_n (M := kt_M588) kX13_useAction_c8.2.2.2.2.2.2.2.1 rfl ?_
  refine kz_iald (M := kt_M588) (c := 12) (o := 0) (k := 29) (a := (E.2.1 4101)) kX13_useAction_c9.1 ow_12_0_29 oa_12_0_29 ot_0 h (fun h => ?_)
  refine kz_sti_n (M := kt_M588) [(0, .ref (w_adr E.2.1 12 0)), (2, .int x2)] kX13_useAction_c9.2.1 (Nat.le_of_ble_eq_true rfl) ⟨⟨rfl, rfl, .inl rfl⟩, ⟨⟨rfl, rfl, .inr rfl⟩, trivial⟩⟩ rfl ?_
  exact kz_weak [(0, .ref (w_adr E.2.1 12 0)), (2, .int x2), (3, .int (w_a w 12 0 29 (x1).toNatClampNeg))] ⟨rfl, ⟨rfl, ⟨rfl, trivial⟩⟩⟩ rfl h
def zb_X13_useAction_p118 (E : zE) (L : Nat) (Q : kx_Rs → wS → Prop) (x2 : Int32) (x3 : Int32) (w : wS) : Prop := (if x3 < 0 then Q (.inl none) w else zw E (L - 23) kt_M388 [.ref (w_adr E.2.1 12 0), .int x3, .int 2, .int x2] w (wk0 (fun w1 => wle w w1 → (kx_inb x3 (w_n w1 12 0 32) = true ∧ zL_X13_useAction_p118 E L Q x2 (w_a w1 12 0 32 (x3).toNatClampNeg) w1)) (fun e w => Q (.inr e) w)))
theorem zt_X13_useAction_p118 {E : zE} {L : Nat} {Q : kx_Rs → wS → Prop} {x2 : Int32} {x3 : Int32} {w : wS} (hL : 24 ≤ L) (h : zb_X13_useAction_p118 E L Q x2 x3 w) : kzE E L kt_M588 118 [(0, .ref (w_adr E.2.1 12 0)), (2, .int x2), (3, .int x3)] [] w Q := by
  unfold zb_X13_useAction_p118 at h
  refine kz_iload_n (M := kt_M588) kX13_useAction_c4.1 rfl ?_
  refine kz_if_lt (M := kt_M588) kX13_useAction_c4.2.1 (t := 139) rfl h (fun h => ?_) (fun h => ?_)
  · skip
    exact kz_ret (M := kt_M588) kX13_useAction_c5.2.2.2.2.2.1 rfl h
  · skip
    refine kz_aload_n (M := kt_M588) kX13_useAction_c4.2.2.1 rfl ?_
    refine kz_iload_n (M := kt_M588) kX13_useAction_c4.2.2.2.1 rfl ?_
    refine kz_ic (M := kt_M588) 2 kX13_useAction_c4.2.2.2.2.1 rfl ?_
    refine kz_iload_n (M := kt_M588) kX13_useAction_c4.2.2.2.2.2.1 rfl ?_
    refine kz_cv0 (M := kt_M588) (c := 12) (o := 0) (As := [.int x3, .int 2, .int x2]) (rest := []) kX13_useAction_c4.2.2.2.2.2.2.1 wl_X13_1040 wMv_388 rfl (.inl rfl) rfl (Nat.le_trans (Nat.le_of_ble_eq_true rfl) hL) (Nat.le_of_ble_eq_true rfl) (Nat.le_of_ble_eq_true rfl) h (fun w1 hle h => ?_) (fun _ _ _ h => kzx_no rfl h)
    have h := h hle
    refine kz_aload_n (M := kt_M588) kX13_useAction_c4.2.2.2.2.2.2.2.1 rfl ?_
    refine kz_gfc (M := kt_M588) (x := 4104) (c := 12) (o := 0) kX13_useAction_c5.1 wf_X13_205 (.inl rfl) ?_
    refine kz_iload_n (M := kt_M588) kX13_useAction_c5.2.1 rfl ?_
    refine kz_iald (M := kt_M588) (c := 12) (o := 0) (k := 32) (a := (E.2.1 4104)) kX13_useAction_c5.2.2.1 ow_12_0_32 oa_12_0_32 ot_0 h (fun h => ?_)
    refine kz_sti_n (M := kt_M588) [(0, .ref (w_adr E.2.1 12 0)), (2, .int x2)] kX13_useAction_c5.2.2.2.1 (Nat.le_of_ble_eq_true rfl) ⟨⟨rfl, rfl, .inl rfl⟩, ⟨⟨rfl, rfl, .inr rfl⟩, trivial⟩⟩ rfl ?_
    refine kz_goto (M := kt_M588) kX13_useAction_c5.2.2.2.2.1 (t := 118) rfl ?_
    exact kz_weak [(0, .ref (w_adr E.2.1 12 0)), (2, .int x2), (3, .int (w_a w1 12 0 32 (x3).toNatClampNeg))] ⟨rfl, ⟨rfl, ⟨rfl, trivial⟩⟩⟩ rfl h
def zb_X13_useAction_p91 (E : zE) (L : Nat) (Q : kx_Rs → wS → Prop) (x1 : Int32) (x2 : Int32) (x3 : Int32) (w : wS) : Prop := (if x3 < 0 then (kx_inb x1 (w_n w 12 0 28) = true ∧ zL_X13_useAction_p118 E L Q x2 (w_a w 12 0 28 (x1).toNatClampNeg) w) else zw E (L - 23) kt_M592 [.ref (w_adr E.2.1 12 0), .int x3, .int x2] w (wk0 (fun w1 => wle w w1 → (kx_inb x3 (w_n w1 12 0 32) = true ∧ zL_X13_useAction_p91 E L Q x1 x2 (w_a w1 12 0 32 (x3).toNatClampNeg) w1)) (fun e w => Q (.inr e) w)))
theorem zt_X13_useAction_p91 {E : zE} {L : Nat} {Q : kx_Rs → wS → Prop} {x1 : Int32} {x2 : Int32} {x3 : Int32} {w : wS} (hL : 24 ≤ L) (h : zb_X13_useAction_p91 E L Q x1 x2 x3 w) : kzE E L kt_M588 91 [(0, .ref (w_adr E.2.1 12 0)), (1, .int x1), (2, .int x2), (3, .int x3)] [] w Q := by
  unfold zb_X13_useAction_p91 at h
  refine kz_iload_n (M := kt_M588) kX13_useAction_c1.2.2.2.2.2.2.2.1 rfl ?_
  refine kz_if_lt (M := kt_M588) kX13_useAction_c2.1 (t := 111) rfl h (fun h => ?_) (fun h => ?_)
  · skip
    refine kz_aload_n (M := kt_M588) kX13_useAction_c3.2.2.2.1 rfl ?_
    refine kz_gfc (M := kt_M588) (x := 4100) (c := 12) (o := 0) kX13_useAction_c3.2.2.2.2.1 wf_X13_193 (.inl rfl) ?_
    refine kz_iload_n (M := kt_M588) kX13_useAction_c3.2.2.2.2.2.1 rfl ?_
    refine kz_iald (M := kt_M588) (c := 12) (o := 0) (k := 28) (a := (E.2.1 4100)) kX13_useAction_c3.2.2.2.2.2.2.1 ow_12_0_28 oa_12_0_28 ot_0 h (fun h => ?_)
    refine kz_sti_n (M := kt_M588) [(0, .ref (w_adr E.2.1 12 0)), (2, .int x2)] kX13_useAction_c3.2.2.2.2.2.2.2.1 (Nat.le_of_ble_eq_true rfl) ⟨⟨rfl, rfl, .inl rfl⟩, ⟨⟨rfl, rfl, .inr rfl⟩, trivial⟩⟩ rfl ?_
    exact kz_weak [(0, .ref (w_adr E.2.1 12 0)), (2, .int x2), (3, .int (w_a w 12 0 28 (x1).toNatClampNeg))] ⟨rfl, ⟨rfl, ⟨rfl, trivial⟩⟩⟩ rfl h
  · skip
    refine kz_aload_n (M := kt_M588) kX13_useAction_c2.2.1 rfl ?_
    refine kz_iload_n (M := kt_M588) kX13_useAction_c2.2.2.1 rfl ?_
    refine kz_iload_n (M := kt_M588) kX13_useAction_c2.2.2.2.1 rfl ?_
    refine kz_cv0 (M := kt_M588) (c := 12) (o := 0) (As := [.int x3, .int x2]) (rest := []) kX13_useAction_c2.2.2.2.2.1 wl_X13_1034 wMv_592 rfl (.inl rfl) rfl (Nat.le_trans (Nat.le_of_ble_eq_true rfl) hL) (Nat.le_of_ble_eq_true rfl) (Nat.le_of_ble_eq_true rfl) h (fun w1 hle h => ?_) (fun _ _ _ h => kzx_no rfl h)
    have h := h hle
    refine kz_aload_n (M := kt_M588) kX13_useAction_c2.2.2.2.2.2.1 rfl ?_
    refine kz_gfc (M := kt_M588) (x := 4104) (c := 12) (o := 0) kX13_useAction_c2.2.2.2.2.2.2.1 wf_X13_205 (.inl rfl) ?_
    refine kz_iload_n (M := kt_M588) kX13_useAction_c2.2.2.2.2.2.2.2.1 rfl ?_
    refine kz_iald (M := kt_M588) (c := 12) (o := 0) (k := 32) (a := (E.2.1 4104)) kX13_useAction_c3.1 ow_12_0_32 oa_12_0_32 ot_0 h (fun h => ?_)
    refine kz_sti_n (M := kt_M588) [(0, .ref (w_adr E.2.1 12 0)), (1, .int x1), (2, .int x2)] kX13_useAction_c3.2.1 (Nat.le_of_ble_eq_true rfl) ⟨⟨rfl, rfl, .inl rfl⟩, ⟨⟨rfl, rfl, .inl rfl⟩, ⟨⟨rfl, rfl, .inr rfl⟩, trivial⟩⟩⟩ rfl ?_
    refine kz_goto (M := kt_M588) kX13_useAction_c3.2.2.1 (t := 91) rfl ?_
    exact kz_weak [(0, .ref (w_adr E.2.1 12 0)), (1, .int x1), (2, .int x2), (3, .int (w_a w1 12 0 32 (x3).toNatClampNeg))] ⟨rfl, ⟨rfl, ⟨rfl, ⟨rfl, trivial⟩⟩⟩⟩ rfl h
def zb_X13_useAction_p0 (E : zE) (L : Nat) (Q : kx_Rs → wS → Prop) (x1 : Int32) (w : wS) : Prop := (kx_inb x1 (w_n w 12 0 27) = true ∧ (kx_inb x1 (w_n w 12 0 26) = true ∧ (if w_a w 12 0 26 (x1).toNatClampNeg = 4 then (kx_inb x1 (w_n w 12 0 29) = true ∧ zL_X13_useAction_p91 E L Q x1 (w_a w 12 0 27 (x1).toNatClampNeg) (w_a w 12 0 29 (x1).toNatClampNeg) w) else (if w_a w 12 0 26 (x1).toNatClampNeg = 5 then (kx_inb x1 (w_n w 12 0 28) = true ∧ (kx_inb (w_a w 12 0 28 (x1).toNatClampNeg) (w_n w 12 0 31) = true ∧ (kx_inb (w_a w 12 0 31 (w_a w 12 0 28 (x1).toNatClampNeg).toNatClampNeg) (w_n w 12 0 46) = true ∧ (if ¬ w_a w 12 0 46 (w_a w 12 0 31 (w_a w 12 0 28 (x1).toNatClampNeg).toNatClampNeg).toNatClampNeg = 3 then zb_X13_useAction_p177 E L Q x1 (w_a w 12 0 27 (x1).toNatClampNeg) (ws_i w 12 0 88 1) else (kx_inb x1 (w_n w 12 0 28) = true ∧ zw E (L - 23) kt_M388 [.ref (w_adr E.2.1 12 0), .int (w_a w 12 0 28 (x1).toNatClampNeg), .int 4, .int (w_a w 12 0 27 (x1).toNatClampNeg)] (ws_i w 12 0 88 1) (wk0 (fun w1 => wle (ws_i w 12 0 88 1) w1 → zb_X13_useAction_p177 E L Q x1 (w_a w 12 0 27 (x1).toNatClampNeg) w1) (fun e w => Q (.inr e) w))))))) else (if w_a w 12 0 26 (x1).toNatClampNeg = 6 then (kx_inb x1 (w_n w 12 0 29) = true ∧ zw E (L - 23) kt_M592 [.ref (w_adr E.2.1 12 0), .int (w_a w 12 0 29 (x1).toNatClampNeg), .int (w_a w 12 0 27 (x1).toNatClampNeg)] (ws_i w 12 0 88 1) (wk0 (fun w3 => wle (ws_i w 12 0 88 1) w3 → Q (.inl none) w3) (fun e w => Q (.inr e) w))) else (if w_a w 12 0 26 (x1).toNatClampNeg = 7 then (kx_inb x1 (w_n w 12 0 28) = true ∧ zw E (L - 23) kt_M388 [.ref (w_adr E.2.1 12 0), .int (w_a w 12 0 28 (x1).toNatClampNeg), .int 4, .int (w_a w 12 0 27 (x1).toNatClampNeg)] (ws_i w 12 0 88 1) (wk0 (fun w5 => wle (ws_i w 12 0 88 1) w5 → (kx_inb x1 (w_n w5 12 0 29) = true ∧ zL_X13_useAction_p247 E L Q (w_a w5 12 0 29 (x1).toNatClampNeg) w5)) (fun e w => Q (.inr e) w))) else (if w_a w 12 0 26 (x1).toNatClampNeg = 8 then (kx_inb x1 (w_n w 12 0 28) = true ∧ zw E (L - 23) kt_M388 [.ref (w_adr E.2.1 12 0), .int (w_a w 12 0 28 (x1).toNatClampNeg), .int 8, .int (w_a w 12 0 27 (x1).toNatClampNeg)] (ws_i w 12 0 88 1) (wk0 (fun w7 => wle (ws_i w 12 0 88 1) w7 → (kx_inb x1 (w_n w7 12 0 28) = true ∧ (kx_inb (w_a w7 12 0 28 (x1).toNatClampNeg) (w_n w7 12 0 31) = true ∧ zw E (L - 21) kt_M427 [.ref (w_adr E.2.1 12 0), .int (w_a w7 12 0 31 (w_a w7 12 0 28 (x1).toNatClampNeg).toNatClampNeg)] w7 (wk1 (fun v10 w9 => wle w7 w9 → (if v10 = 0 then (kx_inb x1 (w_n w9 12 0 29) = true ∧ zb_X13_useAction_p366 E L Q (w_a w 12 0 27 (x1).toNatClampNeg) (w_a w9 12 0 29 (x1).toNatClampNeg) w9) else (kx_inb x1 (w_n w9 12 0 29) = true ∧ (kx_inb (w_a w9 12 0 29 (x1).toNatClampNeg) (w_n w9 12 0 32) = true ∧ zb_X13_useAction_p366 E L Q (w_a w 12 0 27 (x1).toNatClampNeg) (w_a w9 12 0 32 (w_a w9 12 0 29 (x1).toNatClampNeg).toNatClampNeg) w9)))) (fun e w => Q (.inr e) w))))) (fun e w => Q (.inr e) w))) else (if w_a w 12 0 26 (x1).toNatClampNeg = 9 then zw E (L - 24) kt_M590 [.ref (w_adr E.2.1 12 0), .int x1] w (wk0 (fun w11 => wle w w11 → Q (.inl none) w11) (fun e w => Q (.inr e) w)) else (if w_a w 12 0 26 (x1).toNatClampNeg = 10 then (if ¬ w_i w 12 0 88 = 0 then zb_X13_useAction_p413 E L Q x1 (w_a w 12 0 27 (x1).toNatClampNeg) w else (kx_inb x1 (w_n w 12 0 26) = true ∧ (if ¬ w_a w 12 0 26 (x1).toNatClampNeg = 11 then zb_X13_useAction_p418 E L Q x1 (w_a w 12 0 27 (x1).toNatClampNeg) 0 w else zb_X13_useAction_p413 E L Q x1 (w_a w 12 0 27 (x1).toNatClampNeg) w))) else (if w_a w 12 0 26 (x1).toNatClampNeg = 11 then (if ¬ w_i w 12 0 88 = 0 then zb_X13_useAction_p413 E L Q x1 (w_a w 12 0 27 (x1).toNatClampNeg) w else (kx_inb x1 (w_n w 12 0 26) = true ∧ (if ¬ w_a w 12 0 26 (x1).toNatClampNeg = 11 then zb_X13_useAction_p418 E L Q x1 (w_a w 12 0 27 (x1).toNatClampNeg) 0 w else zb_X13_useAction_p413 E L Q x1 (w_a w 12 0 27 (x1).toNatClampNeg) w))) else (if w_a w 12 0 26 (x1).toNatClampNeg = 12 then (kx_inb x1 (w_n w 12 0 29) = true ∧ zL_X13_useAction_p496 E L Q (w_a w 12 0 29 (x1).toNatClampNeg) w) else (if w_a w 12 0 26 (x1).toNatClampNeg = 14 then (kx_inb x1 (w_n w 12 0 28) = true ∧ zw E (L - 23) kt_M592 [.ref (w_adr E.2.1 12 0), .int (w_a w 12 0 28 (x1).toNatClampNeg), .int (w_a w 12 0 27 (x1).toNatClampNeg)] w (wk0 (fun w13 => wle w w13 → (kx_inb x1 (w_n w13 12 0 29) = true ∧ zL_X13_useAction_p555 E L Q (w_a w13 12 0 29 (x1).toNatClampNeg) w13)) (fun e w => Q (.inr e) w))) else (if w_a w 12 0 26 (x1).toNatClampNeg = 16 then (kx_inb x1 (w_n w 12 0 28) = true ∧ zw E (L - 23) kt_M592 [.ref (w_adr E.2.1 12 0), .int (w_a w 12 0 28 (x1).toNatClampNeg), .int (w_a w 12 0 27 (x1).toNatClampNeg)] w (wk0 (fun w15 => wle w w15 → (kx_inb x1 (w_n w15 12 0 29) = true ∧ zw E (L - 21) kt_M589 [.ref (w_adr E.2.1 12 0), .int (w_a w15 12 0 29 (x1).toNatClampNeg)] w15 (wk0 (fun w17 => wle w15 w17 → Q (.inl none) w17) (fun e w => Q (.inr e) w)))) (fun e w => Q (.inr e) w))) else (if w_a w 12 0 26 (x1).toNatClampNeg = 17 then (kx_inb x1 (w_n w 12 0 28) = true ∧ (if w_a w 12 0 28 (x1).toNatClampNeg < 0 then zb_X13_useAction_p648 E L Q x1 (ws_i w 12 0 88 1) else (kx_inb x1 (w_n w 12 0 28) = true ∧ (kx_inb (w_a w 12 0 28 (x1).toNatClampNeg) (w_n w 12 0 28) = true ∧ zw E (L - 23) kt_M592 [.ref (w_adr E.2.1 12 0), .int (w_a w 12 0 28 (w_a w 12 0 28 (x1).toNatClampNeg).toNatClampNeg), .int (w_a w 12 0 27 (x1).toNatClampNeg)] (ws_i w 12 0 88 1) (wk0 (fun w19 => wle (ws_i w 12 0 88 1) w19 → (kx_inb x1 (w_n w19 12 0 28) = true ∧ (kx_inb (w_a w19 12 0 28 (x1).toNatClampNeg) (w_n w19 12 0 29) = true ∧ zw E (L - 23) kt_M592 [.ref (w_adr E.2.1 12 0), .int (w_a w19 12 0 29 (w_a w19 12 0 28 (x1).toNatClampNeg).toNatClampNeg), .int (w_a w 12 0 27 (x1).toNatClampNeg)] w19 (wk0 (fun w21 => wle w19 w21 → zb_X13_useAction_p648 E L Q x1 w21) (fun e w => Q (.inr e) w))))) (fun e w => Q (.inr e) w)))))) else Q (.inl none) w))))))))))))))
theorem zt_X13_useAction_p0 {E : zE} {L : Nat} {Q : kx_Rs → wS → Prop} {x1 : Int32} {w : wS} (hL : 24 ≤ L) (h : zb_X13_useAction_p0 E L Q x1 w) : kzE E L kt_M588 0 [(0, .ref (w_adr E.2.1 12 0)), (1, .int x1)] [] w Q := by
  unfold zb_X13_useAction_p0 at h
  refine kz_aload_n (M := kt_M588) kX13_useAction_c0.1 rfl ?_
  refine kz_gfc (M := kt_M588) (x := 4099) (c := 12) (o := 0) kX13_useAction_c0.2.1 wf_X13_190 (.inl rfl) ?_
  refine kz_iload_n (M := kt_M588) kX13_useAction_c0.2.2.1 rfl ?_
  refine kz_iald (M := kt_M588) (c := 12) (o := 0) (k := 27) (a := (E.2.1 4099)) kX13_useAction_c0.2.2.2.1 ow_12_0_27 oa_12_0_27 ot_0 h (fun h => ?_)
  refine kz_sti_n (M := kt_M588) [(0, .ref (w_adr E.2.1 12 0)), (1, .int x1)] kX13_useAction_c0.2.2.2.2.1 (Nat.le_of_ble_eq_true rfl) ⟨⟨rfl, rfl, .inl rfl⟩, ⟨⟨rfl, rfl, .inr rfl⟩, trivial⟩⟩ rfl ?_
  refine kz_aload_n (M := kt_M588) kX13_useAction_c0.2.2.2.2.2.1 rfl ?_
  refine kz_gfc (M := kt_M588) (x := 4098) (c := 12) (o := 0) kX13_useAction_c0.2.2.2.2.2.2.1 wf_X13_187 (.inl rfl) ?_
  refine kz_iload_n (M := kt_M588) kX13_useAction_c0.2.2.2.2.2.2.2.1 rfl ?_
  refine kz_iald (M := kt_M588) (c := 12) (o := 0) (k := 26) (a := (E.2.1 4098)) kX13_useAction_c1.1 ow_12_0_26 oa_12_0_26 ot_0 h (fun h => ?_)
  refine kz_tsw (M := kt_M588) [(4, 84), (5, 140), (6, 206), (7, 223), (8, 310), (9, 388), (10, 394), (11, 394), (12, 489), (14, 537), (16, 580), (17, 602)] [_, _, _, _, _, _, _, _, _, _, _, _] 724 dX13_useAction_p13 (by decide +kernel) h ⟨fun h => ?_, fun h => ?_, fun h => ?_, fun h => ?_, fun h => ?_, fun h => ?_, fun h => ?_, fun h => ?_, fun h => ?_, fun h => ?_, fun h => ?_, fun h => ?_, trivial⟩ (fun h => ?_)
  · skip
    refine kz_aload_n (M := kt_M588) kX13_useAction_c1.2.2.1 rfl ?_
    refine kz_gfc (M := kt_M588) (x := 4101) (c := 12) (o := 0) kX13_useAction_c1.2.2.2.1 wf_X13_196 (.inl rfl) ?_
    refine kz_iload_n (M := kt_M588) kX13_useAction_c1.2.2.2.2.1 rfl ?_
    refine kz_iald (M := kt_M588) (c := 12) (o := 0) (k := 29) (a := (E.2.1 4101)) kX13_useAction_c1.2.2.2.2.2.1 ow_12_0_29 oa_12_0_29 ot_0 h (fun h => ?_)
    refine kz_sti_n (M := kt_M588) [(0, .ref (w_adr E.2.1 12 0)), (1, .int x1), (2, .int (w_a w 12 0 27 (x1).toNatClampNeg))] kX13_useAction_c1.2.2.2.2.2.2.1 (Nat.le_of_ble_eq_true rfl) ⟨⟨rfl, rfl, .inl rfl⟩, ⟨⟨rfl, rfl, .inl rfl⟩, ⟨⟨rfl, rfl, .inr rfl⟩, trivial⟩⟩⟩ rfl ?_
    exact kz_weak [(0, .ref (w_adr E.2.1 12 0)), (1, .int x1), (2, .int (w_a w 12 0 27 (x1).toNatClampNeg)), (3, .int (w_a w 12 0 29 (x1).toNatClampNeg))] ⟨rfl, ⟨rfl, ⟨rfl, ⟨rfl, trivial⟩⟩⟩⟩ rfl h
  · skip
    refine kz_aload_n (M := kt_M588) kX13_useAction_c5.2.2.2.2.2.2.1 rfl ?_
    refine kz_ic (M := kt_M588) 1 kX13_useAction_c5.2.2.2.2.2.2.2.1 rfl ?_
    refine kz_pfz (M := kt_M588) (c := 12) (o := 0) kX13_useAction_c6.1 wq_X13_1049 (.inl rfl) (by decide) ?_
    refine kz_aload_n (M := kt_M588) kX13_useAction_c6.2.1 rfl ?_
    refine kz_gfc (M := kt_M588) (x := 4118) (c := 12) (o := 0) kX13_useAction_c6.2.2.1 wf_X13_223 (.inl rfl) ?_
    refine kz_aload_n (M := kt_M588) kX13_useAction_c6.2.2.2.1 rfl ?_
    refine kz_gfc (M := kt_M588) (x := 4103) (c := 12) (o := 0) kX13_useAction_c6.2.2.2.2.1 wf_X13_202 (.inl rfl) ?_
    refine kz_aload_n (M := kt_M588) kX13_useAction_c6.2.2.2.2.2.1 rfl ?_
    refine kz_gfc (M := kt_M588) (x := 4100) (c := 12) (o := 0) kX13_useAction_c6.2.2.2.2.2.2.1 wf_X13_193 (.inl rfl) ?_
    refine kz_iload_n (M := kt_M588) kX13_useAction_c6.2.2.2.2.2.2.2.1 rfl ?_
    refine kz_ialdR (M := kt_M588) (n := w_n w 12 0 28) (c := 12) (o := 0) (k := 28) (a := (E.2.1 4100)) (w_a w 12 0 28 (x1).toNatClampNeg) kX13_useAction_c7.1 ow_12_0_28 oa_12_0_28 ot_0 rd_n_i rd_a_i h (fun h => ?_)
    refine kz_ialdR (M := kt_M588) (n := w_n w 12 0 31) (c := 12) (o := 0) (k := 31) (a := (E.2.1 4103)) (w_a w 12 0 31 (w_a w 12 0 28 (x1).toNatClampNeg).toNatClampNeg) kX13_useAction_c7.2.1 ow_12_0_31 oa_12_0_31 ot_0 rd_n_i rd_a_i h (fun h => ?_)
    refine kz_ialdR (M := kt_M588) (n := w_n w 12 0 46) (c := 12) (o := 0) (k := 46) (a := (E.2.1 4118)) (w_a w 12 0 46 (w_a w 12 0 31 (w_a w 12 0 28 (x1).toNatClampNeg).toNatClampNeg).toNatClampNeg) kX13_useAction_c7.2.2.1 ow_12_0_46 oa_12_0_46 ot_0 rd_n_i rd_a_i h (fun h => ?_)
    refine kz_ic (M := kt_M588) 3 kX13_useAction_c7.2.2.2.1 rfl ?_
    refine kz_icmp_ne (M := kt_M588) kX13_useAction_c7.2.2.2.2.1 (t := 177) rfl h (fun h => ?_) (fun h => ?_)
    · skip
      exact kz_weak [(0, .ref (w_adr E.2.1 12 0)), (1, .int x1), (2, .int (w_a w 12 0 27 (x1).toNatClampNeg))] ⟨rfl, ⟨rfl, ⟨rfl, trivial⟩⟩⟩ rfl (zt_X13_useAction_p177 hL  h)
    · skip
      refine kz_aload_n (M := kt_M588) kX13_useAction_c7.2.2.2.2.2.1 rfl ?_
      refine kz_aload_n (M := kt_M588) kX13_useAction_c7.2.2.2.2.2.2.1 rfl ?_
      refine kz_gfc (M := kt_M588) (x := 4100) (c := 12) (o := 0) kX13_useAction_c7.2.2.2.2.2.2.2.1 wf_X13_193 (.inl rfl) ?_
      refine kz_iload_n (M := kt_M588) kX13_useAction_c8.1 rfl ?_
      refine kz_ialdR (M := kt_M588) (n := w_n w 12 0 28) (c := 12) (o := 0) (k := 28) (a := (E.2.1 4100)) (w_a w 12 0 28 (x1).toNatClampNeg) kX13_useAction_c8.2.1 ow_12_0_28 oa_12_0_28 ot_0 rd_n_i rd_a_i h (fun h => ?_)
      refine kz_ic (M := kt_M588) 4 kX13_useAction_c8.2.2.1 rfl ?_
      refine kz_iload_n (M := kt_M588) kX13_useAction_c8.2.2.2.1 rfl ?_
      refine kz_cv0 (M := kt_M588) (c := 12) (o := 0) (As := [.int (w_a w 12 0 28 (x1).toNatClampNeg), .int 4, .int (w_a w 12 0 27 (x1).toNatClampNeg)]) (rest := []) kX13_useAction_c8.2.2.2.2.1 wl_X13_1040 wMv_388 rfl (.inl rfl) rfl (Nat.le_trans (Nat.le_of_ble_eq_true rfl) hL) (Nat.le_of_ble_eq_true rfl) (Nat.le_of_ble_eq_true rfl) h (fun w1 hle h => ?_) (fun _ _ _ h => kzx_no rfl h)
      have h := h hle
      exact kz_weak [(0, .ref (w_adr E.2.1 12 0)), (1, .int x1), (2, .int (w_a w 12 0 27 (x1).toNatClampNeg))] ⟨rfl, ⟨rfl, ⟨rfl, trivial⟩⟩⟩ rfl (zt_X13_useAction_p177 hL  h)
  · skip
    refine kz_aload_n (M := kt_M588) kX13_useAction_c11.1 rfl ?_
    refine kz_ic (M := kt_M588) 1 kX13_useAction_c11.2.1 rfl ?_
    refine kz_pfz (M := kt_M588) (c := 12) (o := 0) kX13_useAction_c11.2.2.1 wq_X13_1049 (.inl rfl) (by decide) ?_
    refine kz_aload_n (M := kt_M588) kX13_useAction_c11.2.2.2.1 rfl ?_
    refine kz_aload_n (M := kt_M588) kX13_useAction_c11.2.2.2.2.1 rfl ?_
    refine kz_gfc (M := kt_M588) (x := 4101) (c := 12) (o := 0) kX13_useAction_c11.2.2.2.2.2.1 wf_X13_196 (.inl rfl) ?_
    refine kz_iload_n (M := kt_M588) kX13_useAction_c11.2.2.2.2.2.2.1 rfl ?_
    refine kz_ialdR (M := kt_M588) (n := w_n w 12 0 29) (c := 12) (o := 0) (k := 29) (a := (E.2.1 4101)) (w_a w 12 0 29 (x1).toNatClampNeg) kX13_useAction_c11.2.2.2.2.2.2.2.1 ow_12_0_29 oa_12_0_29 ot_0 rd_n_i rd_a_i h (fun h => ?_)
    refine kz_iload_n (M := kt_M588) kX13_useAction_c12.1 rfl ?_
    refine kz_cv0 (M := kt_M588) (c := 12) (o := 0) (As := [.int (w_a w 12 0 29 (x1).toNatClampNeg), .int (w_a w 12 0 27 (x1).toNatClampNeg)]) (rest := []) kX13_useAction_c12.2.1 wl_X13_1034 wMv_592 rfl (.inl rfl) rfl (Nat.le_trans (Nat.le_of_ble_eq_true rfl) hL) (Nat.le_of_ble_eq_true rfl) (Nat.le_of_ble_eq_true rfl) h (fun w3 hle h => ?_) (fun _ _ _ h => kzx_no rfl h)
    have h := h hle
    exact kz_ret (M := kt_M588) kX13_useAction_c12.2.2.1 rfl h
  · skip
    refine kz_aload_n (M := kt_M588) kX13_useAction_c12.2.2.2.1 rfl ?_
    refine kz_ic (M := kt_M588) 1 kX13_useAction_c12.2.2.2.2.1 rfl ?_
    refine kz_pfz (M := kt_M588) (c := 12) (o := 0) kX13_useAction_c12.2.2.2.2.2.1 wq_X13_1049 (.inl rfl) (by decide) ?_
    refine kz_aload_n (M := kt_M588) kX13_useAction_c12.2.2.2.2.2.2.1 rfl ?_
    refine kz_aload_n (M := kt_M588) kX13_useAction_c12.2.2.2.2.2.2.2.1 rfl ?_
    refine kz_gfc (M := kt_M588) (x := 4100) (c := 12) (o := 0) kX13_useAction_c13.1 wf_X13_193 (.inl rfl) ?_
    refine kz_iload_n (M := kt_M588) kX13_useAction_c13.2.1 rfl ?_
    refine kz_ialdR (M := kt_M588) (n := w_n w 12 0 28) (c := 12) (o := 0) (k := 28) (a := (E.2.1 4100)) (w_a w 12 0 28 (x1).toNatClampNeg) kX13_useAction_c13.2.2.1 ow_12_0_28 oa_12_0_28 ot_0 rd_n_i rd_a_i h (fun h => ?_)
    refine kz_ic (M := kt_M588) 4 kX13_useAction_c13.2.2.2.1 rfl ?_
    refine kz_iload_n (M := kt_M588) kX13_useAction_c13.2.2.2.2.1 rfl ?_
    refine kz_cv0 (M := kt_M588) (c := 12) (o := 0) (As := [.int (w_a w 12 0 28 (x1).toNatClampNeg), .int 4, .int (w_a w 12 0 27 (x1).toNatClampNeg)]) (rest := []) kX13_useAction_c13.2.2.2.2.2.1 wl_X13_1040 wMv_388 rfl (.inl rfl) rfl (Nat.le_trans (Nat.le_of_ble_eq_true rfl) hL) (Nat.le_of_ble_eq_true rfl) (Nat.le_of_ble_eq_true rfl) h (fun w5 hle h => ?_) (fun _ _ _ h => kzx_no rfl h)
    have h := h hle
    refine kz_aload_n (M := kt_M588) kX13_useAction_c13.2.2.2.2.2.2.1 rfl ?_
    refine kz_gfc (M := kt_M588) (x := 4101) (c := 12) (o := 0) kX13_useAction_c13.2.2.2.2.2.2.2.1 wf_X13_196 (.inl rfl) ?_
    refine kz_iload_n (M := kt_M588) kX13_useAction_c14.1 rfl ?_
    refine kz_iald (M := kt_M588) (c := 12) (o := 0) (k := 29) (a := (E.2.1 4101)) kX13_useAction_c14.2.1 ow_12_0_29 oa_12_0_29 ot_0 h (fun h => ?_)
    refine kz_sti_n (M := kt_M588) [(0, .ref (w_adr E.2.1 12 0))] kX13_useAction_c14.2.2.1 (Nat.le_of_ble_eq_true rfl) ⟨⟨rfl, rfl, .inl rfl⟩, trivial⟩ rfl ?_
    exact kz_weak [(0, .ref (w_adr E.2.1 12 0)), (3, .int (w_a w5 12 0 29 (x1).toNatClampNeg))] ⟨rfl, ⟨rfl, trivial⟩⟩ rfl h
  · skip
    refine kz_aload_n (M := kt_M588) kX13_useAction_c18.2.2.2.2.2.2.2.1 rfl ?_
    refine kz_ic (M := kt_M588) 1 kX13_useAction_c19.1 rfl ?_
    refine kz_pfz (M := kt_M588) (c := 12) (o := 0) kX13_useAction_c19.2.1 wq_X13_1049 (.inl rfl) (by decide) ?_
    refine kz_aload_n (M := kt_M588) kX13_useAction_c19.2.2.1 rfl ?_
    refine kz_aload_n (M := kt_M588) kX13_useAction_c19.2.2.2.1 rfl ?_
    refine kz_gfc (M := kt_M588) (x := 4100) (c := 12) (o := 0) kX13_useAction_c19.2.2.2.2.1 wf_X13_193 (.inl rfl) ?_
    refine kz_iload_n (M := kt_M588) kX13_useAction_c19.2.2.2.2.2.1 rfl ?_
    refine kz_ialdR (M := kt_M588) (n := w_n w 12 0 28) (c := 12) (o := 0) (k := 28) (a := (E.2.1 4100)) (w_a w 12 0 28 (x1).toNatClampNeg) kX13_useAction_c19.2.2.2.2.2.2.1 ow_12_0_28 oa_12_0_28 ot_0 rd_n_i rd_a_i h (fun h => ?_)
    refine kz_bi (M := kt_M588) 8 kX13_useAction_c19.2.2.2.2.2.2.2.1 rfl ?_
    refine kz_iload_n (M := kt_M588) kX13_useAction_c20.1 rfl ?_
    refine kz_cv0 (M := kt_M588) (c := 12) (o := 0) (As := [.int (w_a w 12 0 28 (x1).toNatClampNeg), .int 8, .int (w_a w 12 0 27 (x1).toNatClampNeg)]) (rest := []) kX13_useAction_c20.2.1 wl_X13_1040 wMv_388 rfl (.inl rfl) rfl (Nat.le_trans (Nat.le_of_ble_eq_true rfl) hL) (Nat.le_of_ble_eq_true rfl) (Nat.le_of_ble_eq_true rfl) h (fun w7 hle h => ?_) (fun _ _ _ h => kzx_no rfl h)
    have h := h hle
    refine kz_aload_n (M := kt_M588) kX13_useAction_c20.2.2.1 rfl ?_
    refine kz_aload_n (M := kt_M588) kX13_useAction_c20.2.2.2.1 rfl ?_
    refine kz_gfc (M := kt_M588) (x := 4103) (c := 12) (o := 0) kX13_useAction_c20.2.2.2.2.1 wf_X13_202 (.inl rfl) ?_
    refine kz_aload_n (M := kt_M588) kX13_useAction_c20.2.2.2.2.2.1 rfl ?_
    refine kz_gfc (M := kt_M588) (x := 4100) (c := 12) (o := 0) kX13_useAction_c20.2.2.2.2.2.2.1 wf_X13_193 (.inl rfl) ?_
    refine kz_iload_n (M := kt_M588) kX13_useAction_c20.2.2.2.2.2.2.2.1 rfl ?_
    refine kz_iald (M := kt_M588) (c := 12) (o := 0) (k := 28) (a := (E.2.1 4100)) kX13_useAction_c21.1 ow_12_0_28 oa_12_0_28 ot_0 h (fun h => ?_)
    refine kz_iald (M := kt_M588) (c := 12) (o := 0) (k := 31) (a := (E.2.1 4103)) kX13_useAction_c21.2.1 ow_12_0_31 oa_12_0_31 ot_0 h (fun h => ?_)
    refine kz_cv1 (M := kt_M588) (c := 12) (o := 0) (As := [.int (w_a w7 12 0 31 (w_a w7 12 0 28 (x1).toNatClampNeg).toNatClampNeg)]) (rest := []) kX13_useAction_c21.2.2.1 wl_X13_784 wMv_427 rfl (.inl rfl) rfl (Nat.le_trans (Nat.le_of_ble_eq_true rfl) hL) (Nat.le_of_ble_eq_true rfl) (Nat.le_of_ble_eq_true rfl) h (fun v10 w9 hle h => ?_) (fun _ _ _ h => kzx_no rfl h)
    have h := h hle
    refine kz_if_eq (M := kt_M588) kX13_useAction_c21.2.2.2.1 (t := 360) rfl h (fun h => ?_) (fun h => ?_)
    · skip
      refine kz_aload_n (M := kt_M588) kX13_useAction_c22.2.2.2.2.1 rfl ?_
      refine kz_gfc (M := kt_M588) (x := 4101) (c := 12) (o := 0) kX13_useAction_c22.2.2.2.2.2.1 wf_X13_196 (.inl rfl) ?_
      refine kz_iload_n (M := kt_M588) kX13_useAction_c22.2.2.2.2.2.2.1 rfl ?_
      refine kz_iald (M := kt_M588) (c := 12) (o := 0) (k := 29) (a := (E.2.1 4101)) kX13_useAction_c22.2.2.2.2.2.2.2.1 ow_12_0_29 oa_12_0_29 ot_0 h (fun h => ?_)
      exact kz_weak [(0, .ref (w_adr E.2.1 12 0)), (2, .int (w_a w 12 0 27 (x1).toNatClampNeg))] ⟨rfl, ⟨rfl, trivial⟩⟩ rfl (zt_X13_useAction_p366 hL  h)
    · skip
      refine kz_aload_n (M := kt_M588) kX13_useAction_c21.2.2.2.2.1 rfl ?_
      refine kz_gfc (M := kt_M588) (x := 4104) (c := 12) (o := 0) kX13_useAction_c21.2.2.2.2.2.1 wf_X13_205 (.inl rfl) ?_
      refine kz_aload_n (M := kt_M588) kX13_useAction_c21.2.2.2.2.2.2.1 rfl ?_
      refine kz_gfc (M := kt_M588) (x := 4101) (c := 12) (o := 0) kX13_useAction_c21.2.2.2.2.2.2.2.1 wf_X13_196 (.inl rfl) ?_
      refine kz_iload_n (M := kt_M588) kX13_useAction_c22.1 rfl ?_
      refine kz_iald (M := kt_M588) (c := 12) (o := 0) (k := 29) (a := (E.2.1 4101)) kX13_useAction_c22.2.1 ow_12_0_29 oa_12_0_29 ot_0 h (fun h => ?_)
      refine kz_iald (M := kt_M588) (c := 12) (o := 0) (k := 32) (a := (E.2.1 4104)) kX13_useAction_c22.2.2.1 ow_12_0_32 oa_12_0_32 ot_0 h (fun h => ?_)
      refine kz_goto (M := kt_M588) kX13_useAction_c22.2.2.2.1 (t := 366) rfl ?_
      exact kz_weak [(0, .ref (w_adr E.2.1 12 0)), (2, .int (w_a w 12 0 27 (x1).toNatClampNeg))] ⟨rfl, ⟨rfl, trivial⟩⟩ rfl (zt_X13_useAction_p366 hL  h)
  · skip
    refine kz_aload_n (M := kt_M588) kX13_useAction_c24.2.2.2.2.2.2.1 rfl ?_
    refine kz_iload_n (M := kt_M588) kX13_useAction_c24.2.2.2.2.2.2.2.1 rfl ?_
    refine kz_cv0 (M := kt_M588) (c := 12) (o := 0) (As := [.int x1]) (rest := []) kX13_useAction_c25.1 wl_X13_1055 wMv_590 rfl (.inl rfl) rfl (Nat.le_trans (Nat.le_of_ble_eq_true rfl) hL) (Nat.le_of_ble_eq_true rfl) (Nat.le_of_ble_eq_true rfl) h (fun w11 hle h => ?_) (fun _ _ _ h => kzx_no rfl h)
    have h := h hle
    exact kz_ret (M := kt_M588) kX13_useAction_c25.2.1 rfl h
  · skip
    refine kz_aload_n (M := kt_M588) kX13_useAction_c25.2.2.1 rfl ?_
    refine kz_aload_n (M := kt_M588) kX13_useAction_c25.2.2.2.1 rfl ?_
    refine kz_gfi (M := kt_M588) (c := 12) (o := 0) kX13_useAction_c25.2.2.2.2.1 wf_X13_1049 (.inl rfl) ?_
    refine kz_if_ne (M := kt_M588) kX13_useAction_c25.2.2.2.2.2.1 (t := 413) rfl h (fun h => ?_) (fun h => ?_)
    · skip
      exact kz_weak [(0, .ref (w_adr E.2.1 12 0)), (1, .int x1), (2, .int (w_a w 12 0 27 (x1).toNatClampNeg))] ⟨rfl, ⟨rfl, ⟨rfl, trivial⟩⟩⟩ rfl (zt_X13_useAction_p413 hL  h)
    · skip
      refine kz_aload_n (M := kt_M588) kX13_useAction_c25.2.2.2.2.2.2.1 rfl ?_
      refine kz_gfc (M := kt_M588) (x := 4098) (c := 12) (o := 0) kX13_useAction_c25.2.2.2.2.2.2.2.1 wf_X13_187 (.inl rfl) ?_
      refine kz_iload_n (M := kt_M588) kX13_useAction_c26.1 rfl ?_
      refine kz_iald (M := kt_M588) (c := 12) (o := 0) (k := 26) (a := (E.2.1 4098)) kX13_useAction_c26.2.1 ow_12_0_26 oa_12_0_26 ot_0 h (fun h => ?_)
      refine kz_bi (M := kt_M588) 11 kX13_useAction_c26.2.2.1 rfl ?_
      refine kz_icmp_ne (M := kt_M588) kX13_useAction_c26.2.2.2.1 (t := 417) rfl h (fun h => ?_) (fun h => ?_)
      · skip
        refine kz_ic (M := kt_M588) 0 kX13_useAction_c26.2.2.2.2.2.2.1 rfl ?_
        exact kz_weak [(0, .ref (w_adr E.2.1 12 0)), (1, .int x1), (2, .int (w_a w 12 0 27 (x1).toNatClampNeg))] ⟨rfl, ⟨rfl, ⟨rfl, trivial⟩⟩⟩ rfl (zt_X13_useAction_p418 hL  h)
      · skip
        exact kz_weak [(0, .ref (w_adr E.2.1 12 0)), (1, .int x1), (2, .int (w_a w 12 0 27 (x1).toNatClampNeg))] ⟨rfl, ⟨rfl, ⟨rfl, trivial⟩⟩⟩ rfl (zt_X13_useAction_p413 hL  h)
  · skip
    refine kz_aload_n (M := kt_M588) kX13_useAction_c25.2.2.1 rfl ?_
    refine kz_aload_n (M := kt_M588) kX13_useAction_c25.2.2.2.1 rfl ?_
    refine kz_gfi (M := kt_M588) (c := 12) (o := 0) kX13_useAction_c25.2.2.2.2.1 wf_X13_1049 (.inl rfl) ?_
    refine kz_if_ne (M := kt_M588) kX13_useAction_c25.2.2.2.2.2.1 (t := 413) rfl h (fun h => ?_) (fun h => ?_)
    · skip
      exact kz_weak [(0, .ref (w_adr E.2.1 12 0)), (1, .int x1), (2, .int (w_a w 12 0 27 (x1).toNatClampNeg))] ⟨rfl, ⟨rfl, ⟨rfl, trivial⟩⟩⟩ rfl (zt_X13_useAction_p413 hL  h)
    · skip
      refine kz_aload_n (M := kt_M588) kX13_useAction_c25.2.2.2.2.2.2.1 rfl ?_
      refine kz_gfc (M := kt_M588) (x := 4098) (c := 12) (o := 0) kX13_useAction_c25.2.2.2.2.2.2.2.1 wf_X13_187 (.inl rfl) ?_
      refine kz_iload_n (M := kt_M588) kX13_useAction_c26.1 rfl ?_
      refine kz_iald (M := kt_M588) (c := 12) (o := 0) (k := 26) (a := (E.2.1 4098)) kX13_useAction_c26.2.1 ow_12_0_26 oa_12_0_26 ot_0 h (fun h => ?_)
      refine kz_bi (M := kt_M588) 11 kX13_useAction_c26.2.2.1 rfl ?_
      refine kz_icmp_ne (M := kt_M588) kX13_useAction_c26.2.2.2.1 (t := 417) rfl h (fun h => ?_) (fun h => ?_)
      · skip
        refine kz_ic (M := kt_M588) 0 kX13_useAction_c26.2.2.2.2.2.2.1 rfl ?_
        exact kz_weak [(0, .ref (w_adr E.2.1 12 0)), (1, .int x1), (2, .int (w_a w 12 0 27 (x1).toNatClampNeg))] ⟨rfl, ⟨rfl, ⟨rfl, trivial⟩⟩⟩ rfl (zt_X13_useAction_p418 hL  h)
      · skip
        exact kz_weak [(0, .ref (w_adr E.2.1 12 0)), (1, .int x1), (2, .int (w_a w 12 0 27 (x1).toNatClampNeg))] ⟨rfl, ⟨rfl, ⟨rfl, trivial⟩⟩⟩ rfl (zt_X13_useAction_p413 hL  h)
  · skip
    refine kz_aload_n (M := kt_M588) kX13_useAction_c32.2.2.1 rfl ?_
    refine kz_gfc (M := kt_M588) (x := 4101) (c := 12) (o := 0) kX13_useAction_c32.2.2.2.1 wf_X13_196 (.inl rfl) ?_
    refine kz_iload_n (M := kt_M588) kX13_useAction_c32.2.2.2.2.1 rfl ?_
    refine kz_iald (M := kt_M588) (c := 12) (o := 0) (k := 29) (a := (E.2.1 4101)) kX13_useAction_c32.2.2.2.2.2.1 ow_12_0_29 oa_12_0_29 ot_0 h (fun h => ?_)
    refine kz_sti_n (M := kt_M588) [(0, .ref (w_adr E.2.1 12 0))] kX13_useAction_c32.2.2.2.2.2.2.1 (Nat.le_of_ble_eq_true rfl) ⟨⟨rfl, rfl, .inl rfl⟩, trivial⟩ rfl ?_
    exact kz_weak [(0, .ref (w_adr E.2.1 12 0)), (3, .int (w_a w 12 0 29 (x1).toNatClampNeg))] ⟨rfl, ⟨rfl, trivial⟩⟩ rfl h
  · skip
    refine kz_aload_n (M := kt_M588) kX13_useAction_c36.1 rfl ?_
    refine kz_aload_n (M := kt_M588) kX13_useAction_c36.2.1 rfl ?_
    refine kz_gfc (M := kt_M588) (x := 4100) (c := 12) (o := 0) kX13_useAction_c36.2.2.1 wf_X13_193 (.inl rfl) ?_
    refine kz_iload_n (M := kt_M588) kX13_useAction_c36.2.2.2.1 rfl ?_
    refine kz_iald (M := kt_M588) (c := 12) (o := 0) (k := 28) (a := (E.2.1 4100)) kX13_useAction_c36.2.2.2.2.1 ow_12_0_28 oa_12_0_28 ot_0 h (fun h => ?_)
    refine kz_iload_n (M := kt_M588) kX13_useAction_c36.2.2.2.2.2.1 rfl ?_
    refine kz_cv0 (M := kt_M588) (c := 12) (o := 0) (As := [.int (w_a w 12 0 28 (x1).toNatClampNeg), .int (w_a w 12 0 27 (x1).toNatClampNeg)]) (rest := []) kX13_useAction_c36.2.2.2.2.2.2.1 wl_X13_1034 wMv_592 rfl (.inl rfl) rfl (Nat.le_trans (Nat.le_of_ble_eq_true rfl) hL) (Nat.le_of_ble_eq_true rfl) (Nat.le_of_ble_eq_true rfl) h (fun w13 hle h => ?_) (fun _ _ _ h => kzx_no rfl h)
    have h := h hle
    refine kz_aload_n (M := kt_M588) kX13_useAction_c36.2.2.2.2.2.2.2.1 rfl ?_
    refine kz_gfc (M := kt_M588) (x := 4101) (c := 12) (o := 0) kX13_useAction_c37.1 wf_X13_196 (.inl rfl) ?_
    refine kz_iload_n (M := kt_M588) kX13_useAction_c37.2.1 rfl ?_
    refine kz_iald (M := kt_M588) (c := 12) (o := 0) (k := 29) (a := (E.2.1 4101)) kX13_useAction_c37.2.2.1 ow_12_0_29 oa_12_0_29 ot_0 h (fun h => ?_)
    refine kz_sti_n (M := kt_M588) [(0, .ref (w_adr E.2.1 12 0))] kX13_useAction_c37.2.2.2.1 (Nat.le_of_ble_eq_true rfl) ⟨⟨rfl, rfl, .inl rfl⟩, trivial⟩ rfl ?_
    exact kz_weak [(0, .ref (w_adr E.2.1 12 0)), (3, .int (w_a w13 12 0 29 (x1).toNatClampNeg))] ⟨rfl, ⟨rfl, trivial⟩⟩ rfl h
  · skip
    refine kz_aload_n (M := kt_M588) kX13_useAction_c39.2.2.2.1 rfl ?_
    refine kz_aload_n (M := kt_M588) kX13_useAction_c39.2.2.2.2.1 rfl ?_
    refine kz_gfc (M := kt_M588) (x := 4100) (c := 12) (o := 0) kX13_useAction_c39.2.2.2.2.2.1 wf_X13_193 (.inl rfl) ?_
    refine kz_iload_n (M := kt_M588) kX13_useAction_c39.2.2.2.2.2.2.1 rfl ?_
    refine kz_iald (M := kt_M588) (c := 12) (o := 0) (k := 28) (a := (E.2.1 4100)) kX13_useAction_c39.2.2.2.2.2.2.2.1 ow_12_0_28 oa_12_0_28 ot_0 h (fun h => ?_)
    refine kz_iload_n (M := kt_M588) kX13_useAction_c40.1 rfl ?_
    refine kz_cv0 (M := kt_M588) (c := 12) (o := 0) (As := [.int (w_a w 12 0 28 (x1).toNatClampNeg), .int (w_a w 12 0 27 (x1).toNatClampNeg)]) (rest := []) kX13_useAction_c40.2.1 wl_X13_1034 wMv_592 rfl (.inl rfl) rfl (Nat.le_trans (Nat.le_of_ble_eq_true rfl) hL) (Nat.le_of_ble_eq_true rfl) (Nat.le_of_ble_eq_true rfl) h (fun w15 hle h => ?_) (fun _ _ _ h => kzx_no rfl h)
    have h := h hle
    refine kz_aload_n (M := kt_M588) kX13_useAction_c40.2.2.1 rfl ?_
    refine kz_aload_n (M := kt_M588) kX13_useAction_c40.2.2.2.1 rfl ?_
    refine kz_gfc (M := kt_M588) (x := 4101) (c := 12) (o := 0) kX13_useAction_c40.2.2.2.2.1 wf_X13_196 (.inl rfl) ?_
    refine kz_iload_n (M := kt_M588) kX13_useAction_c40.2.2.2.2.2.1 rfl ?_
    refine kz_iald (M := kt_M588) (c := 12) (o := 0) (k := 29) (a := (E.2.1 4101)) kX13_useAction_c40.2.2.2.2.2.2.1 ow_12_0_29 oa_12_0_29 ot_0 h (fun h => ?_)
    refine kz_cv0 (M := kt_M588) (c := 12) (o := 0) (As := [.int (w_a w15 12 0 29 (x1).toNatClampNeg)]) (rest := []) kX13_useAction_c40.2.2.2.2.2.2.2.1 wl_X13_1052 wMv_589 rfl (.inl rfl) rfl (Nat.le_trans (Nat.le_of_ble_eq_true rfl) hL) (Nat.le_of_ble_eq_true rfl) (Nat.le_of_ble_eq_true rfl) h (fun w17 hle h => ?_) (fun _ _ _ h => kzx_no rfl h)
    have h := h hle
    exact kz_ret (M := kt_M588) kX13_useAction_c41.1 rfl h
  · skip
    refine kz_aload_n (M := kt_M588) kX13_useAction_c41.2.1 rfl ?_
    refine kz_ic (M := kt_M588) 1 kX13_useAction_c41.2.2.1 rfl ?_
    refine kz_pfz (M := kt_M588) (c := 12) (o := 0) kX13_useAction_c41.2.2.2.1 wq_X13_1049 (.inl rfl) (by decide) ?_
    refine kz_aload_n (M := kt_M588) kX13_useAction_c41.2.2.2.2.1 rfl ?_
    refine kz_gfc (M := kt_M588) (x := 4100) (c := 12) (o := 0) kX13_useAction_c41.2.2.2.2.2.1 wf_X13_193 (.inl rfl) ?_
    refine kz_iload_n (M := kt_M588) kX13_useAction_c41.2.2.2.2.2.2.1 rfl ?_
    refine kz_ialdR (M := kt_M588) (n := w_n w 12 0 28) (c := 12) (o := 0) (k := 28) (a := (E.2.1 4100)) (w_a w 12 0 28 (x1).toNatClampNeg) kX13_useAction_c41.2.2.2.2.2.2.2.1 ow_12_0_28 oa_12_0_28 ot_0 rd_n_i rd_a_i h (fun h => ?_)
    refine kz_if_lt (M := kt_M588) kX13_useAction_c42.1 (t := 648) rfl h (fun h => ?_) (fun h => ?_)
    · skip
      exact kz_weak [(0, .ref (w_adr E.2.1 12 0)), (1, .int x1)] ⟨rfl, ⟨rfl, trivial⟩⟩ rfl (zt_X13_useAction_p648 hL  h)
    · skip
      refine kz_aload_n (M := kt_M588) kX13_useAction_c42.2.1 rfl ?_
      refine kz_aload_n (M := kt_M588) kX13_useAction_c42.2.2.1 rfl ?_
      refine kz_gfc (M := kt_M588) (x := 4100) (c := 12) (o := 0) kX13_useAction_c42.2.2.2.1 wf_X13_193 (.inl rfl) ?_
      refine kz_aload_n (M := kt_M588) kX13_useAction_c42.2.2.2.2.1 rfl ?_
      refine kz_gfc (M := kt_M588) (x := 4100) (c := 12) (o := 0) kX13_useAction_c42.2.2.2.2.2.1 wf_X13_193 (.inl rfl) ?_
      refine kz_iload_n (M := kt_M588) kX13_useAction_c42.2.2.2.2.2.2.1 rfl ?_
      refine kz_ialdR (M := kt_M588) (n := w_n w 12 0 28) (c := 12) (o := 0) (k := 28) (a := (E.2.1 4100)) (w_a w 12 0 28 (x1).toNatClampNeg) kX13_useAction_c42.2.2.2.2.2.2.2.1 ow_12_0_28 oa_12_0_28 ot_0 rd_n_i rd_a_i h (fun h => ?_)
      refine kz_ialdR (M := kt_M588) (n := w_n w 12 0 28) (c := 12) (o := 0) (k := 28) (a := (E.2.1 4100)) (w_a w 12 0 28 (w_a w 12 0 28 (x1).toNatClampNeg).toNatClampNeg) kX13_useAction_c43.1 ow_12_0_28 oa_12_0_28 ot_0 rd_n_i rd_a_i h (fun h => ?_)
      refine kz_iload_n (M := kt_M588) kX13_useAction_c43.2.1 rfl ?_
      refine kz_cv0 (M := kt_M588) (c := 12) (o := 0) (As := [.int (w_a w 12 0 28 (w_a w 12 0 28 (x1).toNatClampNeg).toNatClampNeg), .int (w_a w 12 0 27 (x1).toNatClampNeg)]) (rest := []) kX13_useAction_c43.2.2.1 wl_X13_1034 wMv_592 rfl (.inl rfl) rfl (Nat.le_trans (Nat.le_of_ble_eq_true rfl) hL) (Nat.le_of_ble_eq_true rfl) (Nat.le_of_ble_eq_true rfl) h (fun w19 hle h => ?_) (fun _ _ _ h => kzx_no rfl h)
      have h := h hle
      refine kz_aload_n (M := kt_M588) kX13_useAction_c43.2.2.2.1 rfl ?_
      refine kz_aload_n (M := kt_M588) kX13_useAction_c43.2.2.2.2.1 rfl ?_
      refine kz_gfc (M := kt_M588) (x := 4101) (c := 12) (o := 0) kX13_useAction_c43.2.2.2.2.2.1 wf_X13_196 (.inl rfl) ?_
      refine kz_aload_n (M := kt_M588) kX13_useAction_c43.2.2.2.2.2.2.1 rfl ?_
      refine kz_gfc (M := kt_M588) (x := 4100) (c := 12) (o := 0) kX13_useAction_c43.2.2.2.2.2.2.2.1 wf_X13_193 (.inl rfl) ?_
      refine kz_iload_n (M := kt_M588) kX13_useAction_c44.1 rfl ?_
      refine kz_iald (M := kt_M588) (c := 12) (o := 0) (k := 28) (a := (E.2.1 4100)) kX13_useAction_c44.2.1 ow_12_0_28 oa_12_0_28 ot_0 h (fun h => ?_)
      refine kz_iald (M := kt_M588) (c := 12) (o := 0) (k := 29) (a := (E.2.1 4101)) kX13_useAction_c44.2.2.1 ow_12_0_29 oa_12_0_29 ot_0 h (fun h => ?_)
      refine kz_iload_n (M := kt_M588) kX13_useAction_c44.2.2.2.1 rfl ?_
      refine kz_cv0 (M := kt_M588) (c := 12) (o := 0) (As := [.int (w_a w19 12 0 29 (w_a w19 12 0 28 (x1).toNatClampNeg).toNatClampNeg), .int (w_a w 12 0 27 (x1).toNatClampNeg)]) (rest := []) kX13_useAction_c44.2.2.2.2.1 wl_X13_1034 wMv_592 rfl (.inl rfl) rfl (Nat.le_trans (Nat.le_of_ble_eq_true rfl) hL) (Nat.le_of_ble_eq_true rfl) (Nat.le_of_ble_eq_true rfl) h (fun w21 hle h => ?_) (fun _ _ _ h => kzx_no rfl h)
      have h := h hle
      exact kz_weak [(0, .ref (w_adr E.2.1 12 0)), (1, .int x1)] ⟨rfl, ⟨rfl, trivial⟩⟩ rfl (zt_X13_useAction_p648 hL  h)
  · skip
    exact kz_ret (M := kt_M588) kX13_useAction_c50.2.2.2.1 rfl h
def zL_X13_useCall_p52 (E : zE) (L : Nat) (Q : kx_Rs → wS → Prop) (x1 : Int32) (x2 : Int32) (x3 : Int32) (x4 : Int32) (w : wS) : Prop := kzE E L kt_M590 52 [(0, .ref (w_adr E.2.1 12 0)), (1, .int x1), (2, .int x2), (3, .int x3), (4, .int x4)] [] w Q
def zb_X13_useCall_p106 (E : zE) (L : Nat) (Q : kx_Rs → wS → Prop) (x1 : Int32) (x2 : Int32) (x3 : Int32) (x4 : Int32) (w : wS) : Prop := (kx_inb x3 (w_n w 12 0 32) = true ∧ (kx_inb x4 (w_n w 12 0 32) = true ∧ zL_X13_useCall_p52 E L Q x1 x2 (w_a w 12 0 32 (x3).toNatClampNeg) (w_a w 12 0 32 (x4).toNatClampNeg) w))
theorem zt_X13_useCall_p106 {E : zE} {L : Nat} {Q : kx_Rs → wS → Prop} {x1 : Int32} {x2 : Int32} {x3 : Int32} {x4 : Int32} {w : wS} (hL : 23 ≤ L) (h : zb_X13_useCall_p106 E L Q x1 x2 x3 x4 w) : kzE E L kt_M590 106 [(0, .ref (w_adr E.2.1 12 0)), (1, .int x1), (2, .int x2), (3, .int x3), (4, .int x4)] [] w Q := by
  unfold zb_X13_useCall_p106 at h
  refine kz_aload_n (M := kt_M590) kX13_useCall_c7.2.2.2.2.2.2.1 rfl ?_
  refine kz_gfc (M := kt_M590) (x := 4104) (c := 12) (o := 0) kX13_useCall_c7.2.2.2.2.2.2.2.1 wf_X13_205 (.inl rfl) ?_
  refine kz_iload_n (M := kt_M590) kX13_useCall_c8.1 rfl ?_
  refine kz_iald (M := kt_M590) (c := 12) (o := 0) (k := 32) (a := (E.2.1 4104)) kX13_useCall_c8.2.1 ow_12_0_32 oa_12_0_32 ot_0 h (fun h => ?_)
  refine kz_sti_n (M := kt_M590) [(0, .ref (w_adr E.2.1 12 0)), (1, .int x1), (2, .int x2), (4, .int x4)] kX13_useCall_c8.2.2.1 (Nat.le_of_ble_eq_true rfl) ⟨⟨rfl, rfl, .inl rfl⟩, ⟨⟨rfl, rfl, .inl rfl⟩, ⟨⟨rfl, rfl, .inr rfl⟩, ⟨⟨rfl, rfl, .inl rfl⟩, trivial⟩⟩⟩⟩ rfl ?_
  refine kz_aload_n (M := kt_M590) kX13_useCall_c8.2.2.2.1 rfl ?_
  refine kz_gfc (M := kt_M590) (x := 4104) (c := 12) (o := 0) kX13_useCall_c8.2.2.2.2.1 wf_X13_205 (.inl rfl) ?_
  refine kz_iload (M := kt_M590) kX13_useCall_c8.2.2.2.2.2.1 rfl ?_
  refine kz_iald (M := kt_M590) (c := 12) (o := 0) (k := 32) (a := (E.2.1 4104)) kX13_useCall_c8.2.2.2.2.2.2.1 ow_12_0_32 oa_12_0_32 ot_0 h (fun h => ?_)
  refine kz_sti (M := kt_M590) [(0, .ref (w_adr E.2.1 12 0)), (1, .int x1), (2, .int x2), (3, .int (w_a w 12 0 32 (x3).toNatClampNeg))] kX13_useCall_c8.2.2.2.2.2.2.2.1 (Nat.le_of_ble_eq_true rfl) ⟨⟨rfl, rfl, .inl rfl⟩, ⟨⟨rfl, rfl, .inl rfl⟩, ⟨⟨rfl, rfl, .inl rfl⟩, ⟨⟨rfl, rfl, .inr rfl⟩, trivial⟩⟩⟩⟩ rfl ?_
  refine kz_goto (M := kt_M590) kX13_useCall_c9.1 (t := 52) rfl ?_
  exact kz_weak [(0, .ref (w_adr E.2.1 12 0)), (1, .int x1), (2, .int x2), (3, .int (w_a w 12 0 32 (x3).toNatClampNeg)), (4, .int (w_a w 12 0 32 (x4).toNatClampNeg))] ⟨rfl, ⟨rfl, ⟨rfl, ⟨rfl, ⟨rfl, trivial⟩⟩⟩⟩⟩ rfl h
def zb_X13_useCall_p52 (E : zE) (L : Nat) (Q : kx_Rs → wS → Prop) (x1 : Int32) (x2 : Int32) (x3 : Int32) (x4 : Int32) (w : wS) : Prop := (if x4 < 0 then (kx_inb x1 (w_n w 12 0 27) = true ∧ zw E (L - 23) kt_M593 [.ref (w_adr E.2.1 12 0), .int x2, .int (w_a w 12 0 27 (x1).toNatClampNeg)] w (wk0 (fun w1 => wle w w1 → Q (.inl none) w1) (fun e w => Q (.inr e) w))) else (kx_inb x3 (w_n w 12 0 34) = true ∧ (if ((w_a w 12 0 34 (x3).toNatClampNeg) &&& 4) = 0 then (kx_inb x3 (w_n w 12 0 31) = true ∧ zw E (L - 23) kt_M432 [.ref (w_adr E.2.1 12 0), .int x2, .int (w_a w 12 0 31 (x3).toNatClampNeg)] w (wk1 (fun v4 w3 => wle w w3 → (kx_inb x1 (w_n w3 12 0 27) = true ∧ zw E (L - 23) kt_M388 [.ref (w_adr E.2.1 12 0), .int x4, .int v4, .int (w_a w3 12 0 27 (x1).toNatClampNeg)] w3 (wk0 (fun w5 => wle w3 w5 → zb_X13_useCall_p106 E L Q x1 x2 x3 x4 w5) (fun e w => Q (.inr e) w)))) (fun e w => Q (.inr e) w))) else (kx_inb x1 (w_n w 12 0 27) = true ∧ zw E (L - 23) kt_M592 [.ref (w_adr E.2.1 12 0), .int x4, .int (w_a w 12 0 27 (x1).toNatClampNeg)] w (wk0 (fun w7 => wle w w7 → zb_X13_useCall_p106 E L Q x1 x2 x3 x4 w7) (fun e w => Q (.inr e) w))))))
theorem zt_X13_useCall_p52 {E : zE} {L : Nat} {Q : kx_Rs → wS → Prop} {x1 : Int32} {x2 : Int32} {x3 : Int32} {x4 : Int32} {w : wS} (hL : 23 ≤ L) (h : zb_X13_useCall_p52 E L Q x1 x2 x3 x4 w) : kzE E L kt_M590 52 [(0, .ref (w_adr E.2.1 12 0)), (1, .int x1), (2, .int x2), (3, .int x3), (4, .int x4)] [] w Q := by
  unfold zb_X13_useCall_p52 at h
  refine kz_iload (M := kt_M590) kX13_useCall_c3.2.2.2.2.2.2.2.1 rfl ?_
  refine kz_if_lt (M := kt_M590) kX13_useCall_c4.1 (t := 125) rfl h (fun h => ?_) (fun h => ?_)
  · skip
    refine kz_aload_n (M := kt_M590) kX13_useCall_c9.2.1 rfl ?_
    refine kz_iload_n (M := kt_M590) kX13_useCall_c9.2.2.1 rfl ?_
    refine kz_aload_n (M := kt_M590) kX13_useCall_c9.2.2.2.1 rfl ?_
    refine kz_gfc (M := kt_M590) (x := 4099) (c := 12) (o := 0) kX13_useCall_c9.2.2.2.2.1 wf_X13_190 (.inl rfl) ?_
    refine kz_iload_n (M := kt_M590) kX13_useCall_c9.2.2.2.2.2.1 rfl ?_
    refine kz_iald (M := kt_M590) (c := 12) (o := 0) (k := 27) (a := (E.2.1 4099)) kX13_useCall_c9.2.2.2.2.2.2.1 ow_12_0_27 oa_12_0_27 ot_0 h (fun h => ?_)
    refine kz_cv0 (M := kt_M590) (c := 12) (o := 0) (As := [.int x2, .int (w_a w 12 0 27 (x1).toNatClampNeg)]) (rest := []) kX13_useCall_c9.2.2.2.2.2.2.2.1 wl_X13_1037 wMv_593 rfl (.inl rfl) rfl (Nat.le_trans (Nat.le_of_ble_eq_true rfl) hL) (Nat.le_of_ble_eq_true rfl) (Nat.le_of_ble_eq_true rfl) h (fun w1 hle h => ?_) (fun _ _ _ h => kzx_no rfl h)
    have h := h hle
    exact kz_ret (M := kt_M590) kX13_useCall_c10.1 rfl h
  · skip
    refine kz_aload_n (M := kt_M590) kX13_useCall_c4.2.1 rfl ?_
    refine kz_gfc (M := kt_M590) (x := 4106) (c := 12) (o := 0) kX13_useCall_c4.2.2.1 wf_X13_211 (.inl rfl) ?_
    refine kz_iload_n (M := kt_M590) kX13_useCall_c4.2.2.2.1 rfl ?_
    refine kz_iald (M := kt_M590) (c := 12) (o := 0) (k := 34) (a := (E.2.1 4106)) kX13_useCall_c4.2.2.2.2.1 ow_12_0_34 oa_12_0_34 ot_0 h (fun h => ?_)
    refine kz_ic (M := kt_M590) 4 kX13_useCall_c4.2.2.2.2.2.1 rfl ?_
    refine kz_iand (M := kt_M590) kX13_useCall_c4.2.2.2.2.2.2.1 ?_
    refine kz_if_eq (M := kt_M590) kX13_useCall_c4.2.2.2.2.2.2.2.1 (t := 83) rfl h (fun h => ?_) (fun h => ?_)
    · skip
      refine kz_aload_n (M := kt_M590) kX13_useCall_c6.1 rfl ?_
      refine kz_iload (M := kt_M590) kX13_useCall_c6.2.1 rfl ?_
      refine kz_aload_n (M := kt_M590) kX13_useCall_c6.2.2.1 rfl ?_
      refine kz_iload_n (M := kt_M590) kX13_useCall_c6.2.2.2.1 rfl ?_
      refine kz_aload_n (M := kt_M590) kX13_useCall_c6.2.2.2.2.1 rfl ?_
      refine kz_gfc (M := kt_M590) (x := 4103) (c := 12) (o := 0) kX13_useCall_c6.2.2.2.2.2.1 wf_X13_202 (.inl rfl) ?_
      refine kz_iload_n (M := kt_M590) kX13_useCall_c6.2.2.2.2.2.2.1 rfl ?_
      refine kz_iald (M := kt_M590) (c := 12) (o := 0) (k := 31) (a := (E.2.1 4103)) kX13_useCall_c6.2.2.2.2.2.2.2.1 ow_12_0_31 oa_12_0_31 ot_0 h (fun h => ?_)
      refine kz_cv1 (M := kt_M590) (c := 12) (o := 0) (As := [.int x2, .int (w_a w 12 0 31 (x3).toNatClampNeg)]) (rest := [.int x4, .ref (w_adr E.2.1 12 0)]) kX13_useCall_c7.1 wl_X13_1058 wMv_432 rfl (.inl rfl) rfl (Nat.le_trans (Nat.le_of_ble_eq_true rfl) hL) (Nat.le_of_ble_eq_true rfl) (Nat.le_of_ble_eq_true rfl) h (fun v4 w3 hle h => ?_) (fun _ _ _ h => kzx_no rfl h)
      have h := h hle
      refine kz_aload_n (M := kt_M590) kX13_useCall_c7.2.1 rfl ?_
      refine kz_gfc (M := kt_M590) (x := 4099) (c := 12) (o := 0) kX13_useCall_c7.2.2.1 wf_X13_190 (.inl rfl) ?_
      refine kz_iload_n (M := kt_M590) kX13_useCall_c7.2.2.2.1 rfl ?_
      refine kz_iald (M := kt_M590) (c := 12) (o := 0) (k := 27) (a := (E.2.1 4099)) kX13_useCall_c7.2.2.2.2.1 ow_12_0_27 oa_12_0_27 ot_0 h (fun h => ?_)
      refine kz_cv0 (M := kt_M590) (c := 12) (o := 0) (As := [.int x4, .int v4, .int (w_a w3 12 0 27 (x1).toNatClampNeg)]) (rest := []) kX13_useCall_c7.2.2.2.2.2.1 wl_X13_1040 wMv_388 rfl (.inl rfl) rfl (Nat.le_trans (Nat.le_of_ble_eq_true rfl) hL) (Nat.le_of_ble_eq_true rfl) (Nat.le_of_ble_eq_true rfl) h (fun w5 hle h => ?_) (fun _ _ _ h => kzx_no rfl h)
      have h := h hle
      exact kz_weak [(0, .ref (w_adr E.2.1 12 0)), (1, .int x1), (2, .int x2), (3, .int x3), (4, .int x4)] ⟨rfl, ⟨rfl, ⟨rfl, ⟨rfl, ⟨rfl, trivial⟩⟩⟩⟩⟩ rfl (zt_X13_useCall_p106 hL  h)
    · skip
      refine kz_aload_n (M := kt_M590) kX13_useCall_c5.1 rfl ?_
      refine kz_iload (M := kt_M590) kX13_useCall_c5.2.1 rfl ?_
      refine kz_aload_n (M := kt_M590) kX13_useCall_c5.2.2.1 rfl ?_
      refine kz_gfc (M := kt_M590) (x := 4099) (c := 12) (o := 0) kX13_useCall_c5.2.2.2.1 wf_X13_190 (.inl rfl) ?_
      refine kz_iload_n (M := kt_M590) kX13_useCall_c5.2.2.2.2.1 rfl ?_
      refine kz_iald (M := kt_M590) (c := 12) (o := 0) (k := 27) (a := (E.2.1 4099)) kX13_useCall_c5.2.2.2.2.2.1 ow_12_0_27 oa_12_0_27 ot_0 h (fun h => ?_)
      refine kz_cv0 (M := kt_M590) (c := 12) (o := 0) (As := [.int x4, .int (w_a w 12 0 27 (x1).toNatClampNeg)]) (rest := []) kX13_useCall_c5.2.2.2.2.2.2.1 wl_X13_1034 wMv_592 rfl (.inl rfl) rfl (Nat.le_trans (Nat.le_of_ble_eq_true rfl) hL) (Nat.le_of_ble_eq_true rfl) (Nat.le_of_ble_eq_true rfl) h (fun w7 hle h => ?_) (fun _ _ _ h => kzx_no rfl h)
      have h := h hle
      refine kz_goto (M := kt_M590) kX13_useCall_c5.2.2.2.2.2.2.2.1 (t := 106) rfl ?_
      exact kz_weak [(0, .ref (w_adr E.2.1 12 0)), (1, .int x1), (2, .int x2), (3, .int x3), (4, .int x4)] ⟨rfl, ⟨rfl, ⟨rfl, ⟨rfl, ⟨rfl, trivial⟩⟩⟩⟩⟩ rfl (zt_X13_useCall_p106 hL  h)
def zb_X13_useCall_p41 (E : zE) (L : Nat) (Q : kx_Rs → wS → Prop) (x1 : Int32) (x2 : Int32) (x3 : Int32) (y0 : Int32) (w : wS) : Prop := ((y0 = 0 ∨ y0 = 1) ∧ (kx_inb x1 (w_n w 12 0 28) = true ∧ zL_X13_useCall_p52 E L Q x1 x2 x3 (w_a w 12 0 28 (x1).toNatClampNeg) (ws_i w 12 0 88 y0)))
theorem zt_X13_useCall_p41 {E : zE} {L : Nat} {Q : kx_Rs → wS → Prop} {x1 : Int32} {x2 : Int32} {x3 : Int32} {y0 : Int32} {w : wS} (hL : 23 ≤ L) (h : zb_X13_useCall_p41 E L Q x1 x2 x3 y0 w) : kzE E L kt_M590 41 [(0, .ref (w_adr E.2.1 12 0)), (1, .int x1), (2, .int x2), (3, .int x3)] [.int y0, .ref (w_adr E.2.1 12 0)] w Q := by
  unfold zb_X13_useCall_p41 at h
  obtain ⟨h0, h⟩ := h
  refine kz_pfz (M := kt_M590) (c := 12) (o := 0) kX13_useCall_c3.2.1 wq_X13_1049 (.inl rfl) h0 ?_
  refine kz_aload_n (M := kt_M590) kX13_useCall_c3.2.2.1 rfl ?_
  refine kz_gfc (M := kt_M590) (x := 4100) (c := 12) (o := 0) kX13_useCall_c3.2.2.2.1 wf_X13_193 (.inl rfl) ?_
  refine kz_iload_n (M := kt_M590) kX13_useCall_c3.2.2.2.2.1 rfl ?_
  refine kz_ialdR (M := kt_M590) (n := w_n w 12 0 28) (c := 12) (o := 0) (k := 28) (a := (E.2.1 4100)) (w_a w 12 0 28 (x1).toNatClampNeg) kX13_useCall_c3.2.2.2.2.2.1 ow_12_0_28 oa_12_0_28 ot_0 rd_n_i rd_a_i h (fun h => ?_)
  refine kz_sti (M := kt_M590) [(0, .ref (w_adr E.2.1 12 0)), (1, .int x1), (2, .int x2), (3, .int x3)] kX13_useCall_c3.2.2.2.2.2.2.1 (Nat.le_of_ble_eq_true rfl) ⟨⟨rfl, rfl, .inl rfl⟩, ⟨⟨rfl, rfl, .inl rfl⟩, ⟨⟨rfl, rfl, .inl rfl⟩, ⟨⟨rfl, rfl, .inr rfl⟩, trivial⟩⟩⟩⟩ rfl ?_
  exact kz_weak [(0, .ref (w_adr E.2.1 12 0)), (1, .int x1), (2, .int x2), (3, .int x3), (4, .int (w_a w 12 0 28 (x1).toNatClampNeg))] ⟨rfl, ⟨rfl, ⟨rfl, ⟨rfl, ⟨rfl, trivial⟩⟩⟩⟩⟩ rfl h
def zb_X13_useCall_p36 (E : zE) (L : Nat) (Q : kx_Rs → wS → Prop) (x1 : Int32) (x2 : Int32) (x3 : Int32) (w : wS) : Prop := zb_X13_useCall_p41 E L Q x1 x2 x3 1 w
theorem zt_X13_useCall_p36 {E : zE} {L : Nat} {Q : kx_Rs → wS → Prop} {x1 : Int32} {x2 : Int32} {x3 : Int32} {w : wS} (hL : 23 ≤ L) (h : zb_X13_useCall_p36 E L Q x1 x2 x3 w) : kzE E L kt_M590 36 [(0, .ref (w_adr E.2.1 12 0)), (1, .int x1), (2, .int x2), (3, .int x3)] [.ref (w_adr E.2.1 12 0)] w Q := by
  unfold zb_X13_useCall_p36 at h
  refine kz_ic (M := kt_M590) 1 kX13_useCall_c2.2.2.2.2.2.2.1 rfl ?_
  refine kz_goto (M := kt_M590) kX13_useCall_c2.2.2.2.2.2.2.2.1 (t := 41) rfl ?_
  exact kz_weak [(0, .ref (w_adr E.2.1 12 0)), (1, .int x1), (2, .int x2), (3, .int x3)] ⟨rfl, ⟨rfl, ⟨rfl, ⟨rfl, trivial⟩⟩⟩⟩ rfl (zt_X13_useCall_p41 hL  h)
def zb_X13_useCall_p0 (E : zE) (L : Nat) (Q : kx_Rs → wS → Prop) (x1 : Int32) (w : wS) : Prop := (kx_inb x1 (w_n w 12 0 31) = true ∧ (kx_inb (w_a w 12 0 31 (x1).toNatClampNeg) (w_n w 12 0 49) = true ∧ (kx_inb (w_a w 12 0 49 (w_a w 12 0 31 (x1).toNatClampNeg).toNatClampNeg) (w_n w 12 0 28) = true ∧ (if ¬ w_i w 12 0 88 = 0 then zb_X13_useCall_p36 E L Q x1 (w_a w 12 0 49 (w_a w 12 0 31 (x1).toNatClampNeg).toNatClampNeg) (w_a w 12 0 28 (w_a w 12 0 49 (w_a w 12 0 31 (x1).toNatClampNeg).toNatClampNeg).toNatClampNeg) w else (kx_inb (w_a w 12 0 49 (w_a w 12 0 31 (x1).toNatClampNeg).toNatClampNeg) (w_n w 12 0 85) = true ∧ (if w_a w 12 0 85 (w_a w 12 0 49 (w_a w 12 0 31 (x1).toNatClampNeg).toNatClampNeg).toNatClampNeg = 0 then zb_X13_useCall_p41 E L Q x1 (w_a w 12 0 49 (w_a w 12 0 31 (x1).toNatClampNeg).toNatClampNeg) (w_a w 12 0 28 (w_a w 12 0 49 (w_a w 12 0 31 (x1).toNatClampNeg).toNatClampNeg).toNatClampNeg) 0 w else zb_X13_useCall_p36 E L Q x1 (w_a w 12 0 49 (w_a w 12 0 31 (x1).toNatClampNeg).toNatClampNeg) (w_a w 12 0 28 (w_a w 12 0 49 (w_a w 12 0 31 (x1).toNatClampNeg).toNatClampNeg).toNatClampNeg) w))))))
theorem zt_X13_useCall_p0 {E : zE} {L : Nat} {Q : kx_Rs → wS → Prop} {x1 : Int32} {w : wS} (hL : 23 ≤ L) (h : zb_X13_useCall_p0 E L Q x1 w) : kzE E L kt_M590 0 [(0, .ref (w_adr E.2.1 12 0)), (1, .int x1)] [] w Q := by
  unfold zb_X13_useCall_p0 at h
  refine kz_aload_n (M := kt_M590) kX13_useCall_c0.1 rfl ?_
  refine kz_gfc (M := kt_M590) (x := 4121) (c := 12) (o := 0) kX13_useCall_c0.2.1 wf_X13_232 (.inl rfl) ?_
  refine kz_aload_n (M := kt_M590) kX13_useCall_c0.2.2.1 rfl ?_
  refine kz_gfc (M := kt_M590) (x := 4103) (c := 12) (o := 0) kX13_useCall_c0.2.2.2.1 wf_X13_202 (.inl rfl) ?_
  refine kz_iload_n (M := kt_M590) kX13_useCall_c0.2.2.2.2.1 rfl ?_
  refine kz_iald (M := kt_M590) (c := 12) (o := 0) (k := 31) (a := (E.2.1 4103)) kX13_useCall_c0.2.2.2.2.2.1 ow_12_0_31 oa_12_0_31 ot_0 h (fun h => ?_)
  refine kz_iald (M := kt_M590) (c := 12) (o := 0) (k := 49) (a := (E.2.1 4121)) kX13_useCall_c0.2.2.2.2.2.2.1 ow_12_0_49 oa_12_0_49 ot_0 h (fun h => ?_)
  refine kz_sti_n (M := kt_M590) [(0, .ref (w_adr E.2.1 12 0)), (1, .int x1)] kX13_useCall_c0.2.2.2.2.2.2.2.1 (Nat.le_of_ble_eq_true rfl) ⟨⟨rfl, rfl, .inl rfl⟩, ⟨⟨rfl, rfl, .inr rfl⟩, trivial⟩⟩ rfl ?_
  refine kz_aload_n (M := kt_M590) kX13_useCall_c1.1 rfl ?_
  refine kz_gfc (M := kt_M590) (x := 4100) (c := 12) (o := 0) kX13_useCall_c1.2.1 wf_X13_193 (.inl rfl) ?_
  refine kz_iload_n (M := kt_M590) kX13_useCall_c1.2.2.1 rfl ?_
  refine kz_iald (M := kt_M590) (c := 12) (o := 0) (k := 28) (a := (E.2.1 4100)) kX13_useCall_c1.2.2.2.1 ow_12_0_28 oa_12_0_28 ot_0 h (fun h => ?_)
  refine kz_sti_n (M := kt_M590) [(0, .ref (w_adr E.2.1 12 0)), (1, .int x1), (2, .int (w_a w 12 0 49 (w_a w 12 0 31 (x1).toNatClampNeg).toNatClampNeg))] kX13_useCall_c1.2.2.2.2.1 (Nat.le_of_ble_eq_true rfl) ⟨⟨rfl, rfl, .inl rfl⟩, ⟨⟨rfl, rfl, .inl rfl⟩, ⟨⟨rfl, rfl, .inr rfl⟩, trivial⟩⟩⟩ rfl ?_
  refine kz_aload_n (M := kt_M590) kX13_useCall_c1.2.2.2.2.2.1 rfl ?_
  refine kz_aload_n (M := kt_M590) kX13_useCall_c1.2.2.2.2.2.2.1 rfl ?_
  refine kz_gfi (M := kt_M590) (c := 12) (o := 0) kX13_useCall_c1.2.2.2.2.2.2.2.1 wf_X13_1049 (.inl rfl) ?_
  refine kz_if_ne (M := kt_M590) kX13_useCall_c2.1 (t := 36) rfl h (fun h => ?_) (fun h => ?_)
  · skip
    exact kz_weak [(0, .ref (w_adr E.2.1 12 0)), (1, .int x1), (2, .int (w_a w 12 0 49 (w_a w 12 0 31 (x1).toNatClampNeg).toNatClampNeg)), (3, .int (w_a w 12 0 28 (w_a w 12 0 49 (w_a w 12 0 31 (x1).toNatClampNeg).toNatClampNeg).toNatClampNeg))] ⟨rfl, ⟨rfl, ⟨rfl, ⟨rfl, trivial⟩⟩⟩⟩ rfl (zt_X13_useCall_p36 hL  h)
  · skip
    refine kz_aload_n (M := kt_M590) kX13_useCall_c2.2.1 rfl ?_
    refine kz_gfc (M := kt_M590) (x := 4157) (c := 12) (o := 0) kX13_useCall_c2.2.2.1 wf_X13_307 (.inl rfl) ?_
    refine kz_iload_n (M := kt_M590) kX13_useCall_c2.2.2.2.1 rfl ?_
    refine kz_zald (M := kt_M590) (c := 12) (o := 0) (k := 85) (a := (E.2.1 4157)) kX13_useCall_c2.2.2.2.2.1 ow_12_0_85 oa_12_0_85 ot_2 h (fun h => ?_)
    refine kz_if_eq (M := kt_M590) kX13_useCall_c2.2.2.2.2.2.1 (t := 40) rfl h (fun h => ?_) (fun h => ?_)
    · skip
      refine kz_ic (M := kt_M590) 0 kX13_useCall_c3.1 rfl ?_
      exact kz_weak [(0, .ref (w_adr E.2.1 12 0)), (1, .int x1), (2, .int (w_a w 12 0 49 (w_a w 12 0 31 (x1).toNatClampNeg).toNatClampNeg)), (3, .int (w_a w 12 0 28 (w_a w 12 0 49 (w_a w 12 0 31 (x1).toNatClampNeg).toNatClampNeg).toNatClampNeg))] ⟨rfl, ⟨rfl, ⟨rfl, ⟨rfl, trivial⟩⟩⟩⟩ rfl (zt_X13_useCall_p41 hL  h)
    · skip
      exact kz_weak [(0, .ref (w_adr E.2.1 12 0)), (1, .int x1), (2, .int (w_a w 12 0 49 (w_a w 12 0 31 (x1).toNatClampNeg).toNatClampNeg)), (3, .int (w_a w 12 0 28 (w_a w 12 0 49 (w_a w 12 0 31 (x1).toNatClampNeg).toNatClampNeg).toNatClampNeg))] ⟨rfl, ⟨rfl, ⟨rfl, ⟨rfl, trivial⟩⟩⟩⟩ rfl (zt_X13_useCall_p36 hL  h)
def zL_X13_howOf_p7 (E : zE) (L : Nat) (Q : kx_Rs → wS → Prop) (x1 : Int32) (x2 : Int32) (x3 : Int32) (w : wS) : Prop := kzE E L kt_M432 7 [(0, .ref (w_adr E.2.1 12 0)), (1, .int x1), (2, .int x2), (3, .int x3)] [] w Q
def zb_X13_howOf_p7 (E : zE) (L : Nat) (Q : kx_Rs → wS → Prop) (x1 : Int32) (x2 : Int32) (x3 : Int32) (w : wS) : Prop := (kx_inb x1 (w_n w 12 0 84) = true ∧ (if w_a w 12 0 84 (x1).toNatClampNeg ≤ x3 then Q (.inl (some (.int 0))) w else (kx_inb x3 (w_n w 12 0 81) = true ∧ (if ¬ w_a w 12 0 81 (x3).toNatClampNeg = x2 then zL_X13_howOf_p7 E L Q x1 x2 (x3 + 1) w else (kx_inb x3 (w_n w 12 0 82) = true ∧ Q (.inl (some (.int (w_a w 12 0 82 (x3).toNatClampNeg)))) w)))))
theorem zt_X13_howOf_p7 {E : zE} {L : Nat} {Q : kx_Rs → wS → Prop} {x1 : Int32} {x2 : Int32} {x3 : Int32} {w : wS} (hL : 19 ≤ L) (h : zb_X13_howOf_p7 E L Q x1 x2 x3 w) : kzE E L kt_M432 7 [(0, .ref (w_adr E.2.1 12 0)), (1, .int x1), (2, .int x2), (3, .int x3)] [] w Q := by
  unfold zb_X13_howOf_p7 at h
  refine kz_iload_n (M := kt_M432) kX13_howOf_c0.2.2.2.2.2.1 rfl ?_
  refine kz_aload_n (M := kt_M432) kX13_howOf_c0.2.2.2.2.2.2.1 rfl ?_
  refine kz_gfc (M := kt_M432) (x := 4156) (c := 12) (o := 0) kX13_howOf_c0.2.2.2.2.2.2.2.1 wf_X13_304 (.inl rfl) ?_
  refine kz_iload_n (M := kt_M432) kX13_howOf_c1.1 rfl ?_
  refine kz_iald (M := kt_M432) (c := 12) (o := 0) (k := 84) (a := (E.2.1 4156)) kX13_howOf_c1.2.1 ow_12_0_84 oa_12_0_84 ot_0 h (fun h => ?_)
  refine kz_icmp_ge (M := kt_M432) kX13_howOf_c1.2.2.1 (t := 40) rfl h (fun h => ?_) (fun h => ?_)
  · skip
    refine kz_ic (M := kt_M432) 0 kX13_howOf_c3.1 rfl ?_
    exact kz_iret (M := kt_M432) kX13_howOf_c3.2.1 rfl rfl h
  · skip
    refine kz_aload_n (M := kt_M432) kX13_howOf_c1.2.2.2.1 rfl ?_
    refine kz_gfa (M := kt_M432) (c := 12) (o := 0) kX13_howOf_c1.2.2.2.2.1 wf_X13_295 (.inl rfl) ?_
    refine kz_iload_n (M := kt_M432) kX13_howOf_c1.2.2.2.2.2.1 rfl ?_
    refine kz_iald (M := kt_M432) (c := 12) (o := 0) (k := 81) (a := (w_d w 12 0 81)) kX13_howOf_c1.2.2.2.2.2.2.1 ow_12_0_81 oa_12_0_81 ot_0 h (fun h => ?_)
    refine kz_iload_n (M := kt_M432) kX13_howOf_c1.2.2.2.2.2.2.2.1 rfl ?_
    refine kz_icmp_ne (M := kt_M432) kX13_howOf_c2.1 (t := 34) rfl h (fun h => ?_) (fun h => ?_)
    · skip
      refine kz_inc (M := kt_M432) [(0, .ref (w_adr E.2.1 12 0)), (1, .int x1), (2, .int x2)] kX13_howOf_c2.2.2.2.2.2.2.1 rfl (Nat.le_of_ble_eq_true rfl) ⟨⟨rfl, rfl, .inl rfl⟩, ⟨⟨rfl, rfl, .inl rfl⟩, ⟨⟨rfl, rfl, .inr rfl⟩, trivial⟩⟩⟩ rfl ?_
      refine kz_goto (M := kt_M432) kX13_howOf_c2.2.2.2.2.2.2.2.1 (t := 7) rfl ?_
      exact kz_weak [(0, .ref (w_adr E.2.1 12 0)), (1, .int x1), (2, .int x2), (3, .int (x3 + 1))] ⟨rfl, ⟨rfl, ⟨rfl, ⟨rfl, trivial⟩⟩⟩⟩ rfl h
    · skip
      refine kz_aload_n (M := kt_M432) kX13_howOf_c2.2.1 rfl ?_
      refine kz_gfa (M := kt_M432) (c := 12) (o := 0) kX13_howOf_c2.2.2.1 wf_X13_298 (.inl rfl) ?_
      refine kz_iload_n (M := kt_M432) kX13_howOf_c2.2.2.2.1 rfl ?_
      refine kz_iald (M := kt_M432) (c := 12) (o := 0) (k := 82) (a := (w_d w 12 0 82)) kX13_howOf_c2.2.2.2.2.1 ow_12_0_82 oa_12_0_82 ot_0 h (fun h => ?_)
      exact kz_iret (M := kt_M432) kX13_howOf_c2.2.2.2.2.2.1 rfl rfl h
def zb_X13_howOf_p0 (E : zE) (L : Nat) (Q : kx_Rs → wS → Prop) (x1 : Int32) (x2 : Int32) (w : wS) : Prop := (kx_inb x1 (w_n w 12 0 83) = true ∧ zL_X13_howOf_p7 E L Q x1 x2 (w_a w 12 0 83 (x1).toNatClampNeg) w)
theorem zt_X13_howOf_p0 {E : zE} {L : Nat} {Q : kx_Rs → wS → Prop} {x1 : Int32} {x2 : Int32} {w : wS} (hL : 19 ≤ L) (h : zb_X13_howOf_p0 E L Q x1 x2 w) : kzE E L kt_M432 0 [(0, .ref (w_adr E.2.1 12 0)), (1, .int x1), (2, .int x2)] [] w Q := by
  unfold zb_X13_howOf_p0 at h
  refine kz_aload_n (M := kt_M432) kX13_howOf_c0.1 rfl ?_
  refine kz_gfc (M := kt_M432) (x := 4155) (c := 12) (o := 0) kX13_howOf_c0.2.1 wf_X13_301 (.inl rfl) ?_
  refine kz_iload_n (M := kt_M432) kX13_howOf_c0.2.2.1 rfl ?_
  refine kz_iald (M := kt_M432) (c := 12) (o := 0) (k := 83) (a := (E.2.1 4155)) kX13_howOf_c0.2.2.2.1 ow_12_0_83 oa_12_0_83 ot_0 h (fun h => ?_)
  refine kz_sti_n (M := kt_M432) [(0, .ref (w_adr E.2.1 12 0)), (1, .int x1), (2, .int x2)] kX13_howOf_c0.2.2.2.2.1 (Nat.le_of_ble_eq_true rfl) ⟨⟨rfl, rfl, .inl rfl⟩, ⟨⟨rfl, rfl, .inl rfl⟩, ⟨⟨rfl, rfl, .inr rfl⟩, trivial⟩⟩⟩ rfl ?_
  exact kz_weak [(0, .ref (w_adr E.2.1 12 0)), (1, .int x1), (2, .int x2), (3, .int (w_a w 12 0 83 (x1).toNatClampNeg))] ⟨rfl, ⟨rfl, ⟨rfl, ⟨rfl, trivial⟩⟩⟩⟩ rfl h
def zL_X13_actAction_p325 (E : zE) (L : Nat) (Q : kx_Rs → wS → Prop) (x3 : Int32) (w : wS) : Prop := kzE E L kt_M341 325 [(0, .ref (w_adr E.2.1 12 0)), (3, .int x3)] [] w Q
def zL_X13_actAction_p268 (E : zE) (L : Nat) (Q : kx_Rs → wS → Prop) (x3 : Int32) (w : wS) : Prop := kzE E L kt_M341 268 [(0, .ref (w_adr E.2.1 12 0)), (3, .int x3)] [] w Q
def zL_X13_actAction_p241 (E : zE) (L : Nat) (Q : kx_Rs → wS → Prop) (x3 : Int32) (w : wS) : Prop := kzE E L kt_M341 241 [(0, .ref (w_adr E.2.1 12 0)), (3, .int x3)] [] w Q
def zL_X13_actAction_p178 (E : zE) (L : Nat) (Q : kx_Rs → wS → Prop) (x3 : Int32) (w : wS) : Prop := kzE E L kt_M341 178 [(0, .ref (w_adr E.2.1 12 0)), (3, .int x3)] [] w Q
def zL_X13_actAction_p91 (E : zE) (L : Nat) (Q : kx_Rs → wS → Prop) (x2 : Int32) (x3 : Int32) (w : wS) : Prop := kzE E L kt_M341 91 [(0, .ref (w_adr E.2.1 12 0)), (2, .int x2), (3, .int x3)] [] w Q
def zb_X13_actAction_p358 (E : zE) (L : Nat) (Q : kx_Rs → wS → Prop) (x3 : Int32) (w : wS) : Prop := (kx_inb x3 (w_n w 12 0 32) = true ∧ zL_X13_actAction_p325 E L Q (w_a w 12 0 32 (x3).toNatClampNeg) w)
theorem zt_X13_actAction_p358 {E : zE} {L : Nat} {Q : kx_Rs → wS → Prop} {x3 : Int32} {w : wS} (hL : 30 ≤ L) (h : zb_X13_actAction_p358 E L Q x3 w) : kzE E L kt_M341 358 [(0, .ref (w_adr E.2.1 12 0)), (3, .int x3)] [] w Q := by
  unfold zb_X13_actAction_p358 at h
  refine kz_aload_n (M := kt_M341) kX13_actAction_c21.2.2.1 rfl ?_
  refine kz_gfc (M := kt_M341) (x := 4104) (c := 12) (o := 0) kX13_actAction_c21.2.2.2.1 wf_X13_205 (.inl rfl) ?_
  refine kz_iload_n (M := kt_M341) kX13_actAction_c21.2.2.2.2.1 rfl ?_
  refine kz_iald (M := kt_M341) (c := 12) (o := 0) (k := 32) (a := (E.2.1 4104)) kX13_actAction_c21.2.2.2.2.2.1 ow_12_0_32 oa_12_0_32 ot_0 h (fun h => ?_)
  refine kz_sti_n (M := kt_M341) [(0, .ref (w_adr E.2.1 12 0))] kX13_actAction_c21.2.2.2.2.2.2.1 (Nat.le_of_ble_eq_true rfl) ⟨⟨rfl, rfl, .inl rfl⟩, trivial⟩ rfl ?_
  refine kz_goto (M := kt_M341) kX13_actAction_c21.2.2.2.2.2.2.2.1 (t := 325) rfl ?_
  exact kz_weak [(0, .ref (w_adr E.2.1 12 0)), (3, .int (w_a w 12 0 32 (x3).toNatClampNeg))] ⟨rfl, ⟨rfl, trivial⟩⟩ rfl h
def zb_X13_actAction_p325 (E : zE) (L : Nat) (Q : kx_Rs → wS → Prop) (x3 : Int32) (w : wS) : Prop := (if x3 < 0 then Q (.inl none) w else (kx_inb x3 (w_n w 12 0 29) = true ∧ zw E (L - 23) kt_M341 [.ref (w_adr E.2.1 12 0), .int (w_a w 12 0 29 (x3).toNatClampNeg)] w (wk0 (fun w1 => wle w w1 → (kx_inb x3 (w_n w1 12 0 30) = true ∧ (if w_a w1 12 0 30 (x3).toNatClampNeg < 0 then zb_X13_actAction_p358 E L Q x3 w1 else (kx_inb x3 (w_n w1 12 0 30) = true ∧ zw E (L - 21) kt_M342 [.ref (w_adr E.2.1 12 0), .int (w_a w1 12 0 30 (x3).toNatClampNeg)] w1 (wk0 (fun w3 => wle w1 w3 → zb_X13_actAction_p358 E L Q x3 w3) (fun e w => Q (.inr e) w)))))) (fun e w => Q (.inr e) w))))
theorem zt_X13_actAction_p325 {E : zE} {L : Nat} {Q : kx_Rs → wS → Prop} {x3 : Int32} {w : wS} (hL : 30 ≤ L) (h : zb_X13_actAction_p325 E L Q x3 w) : kzE E L kt_M341 325 [(0, .ref (w_adr E.2.1 12 0)), (3, .int x3)] [] w Q := by
  unfold zb_X13_actAction_p325 at h
  refine kz_iload_n (M := kt_M341) kX13_actAction_c18.2.2.2.2.2.2.2.1 rfl ?_
  refine kz_if_lt (M := kt_M341) kX13_actAction_c19.1 (t := 368) rfl h (fun h => ?_) (fun h => ?_)
  · skip
    exact kz_ret (M := kt_M341) kX13_actAction_c22.1 rfl h
  · skip
    refine kz_aload_n (M := kt_M341) kX13_actAction_c19.2.1 rfl ?_
    refine kz_aload_n (M := kt_M341) kX13_actAction_c19.2.2.1 rfl ?_
    refine kz_gfc (M := kt_M341) (x := 4101) (c := 12) (o := 0) kX13_actAction_c19.2.2.2.1 wf_X13_196 (.inl rfl) ?_
    refine kz_iload_n (M := kt_M341) kX13_actAction_c19.2.2.2.2.1 rfl ?_
    refine kz_iald (M := kt_M341) (c := 12) (o := 0) (k := 29) (a := (E.2.1 4101)) kX13_actAction_c19.2.2.2.2.2.1 ow_12_0_29 oa_12_0_29 ot_0 h (fun h => ?_)
    refine kz_cv0 (M := kt_M341) (c := 12) (o := 0) (As := [.int (w_a w 12 0 29 (x3).toNatClampNeg)]) (rest := []) kX13_actAction_c19.2.2.2.2.2.2.1 wl_X13_1064 wMv_341 rfl (.inl rfl) rfl (Nat.le_trans (Nat.le_of_ble_eq_true rfl) hL) (Nat.le_of_ble_eq_true rfl) (Nat.le_of_ble_eq_true rfl) h (fun w1 hle h => ?_) (fun _ _ _ h => kzx_no rfl h)
    have h := h hle
    refine kz_aload_n (M := kt_M341) kX13_actAction_c19.2.2.2.2.2.2.2.1 rfl ?_
    refine kz_gfc (M := kt_M341) (x := 4102) (c := 12) (o := 0) kX13_actAction_c20.1 wf_X13_199 (.inl rfl) ?_
    refine kz_iload_n (M := kt_M341) kX13_actAction_c20.2.1 rfl ?_
    refine kz_iald (M := kt_M341) (c := 12) (o := 0) (k := 30) (a := (E.2.1 4102)) kX13_actAction_c20.2.2.1 ow_12_0_30 oa_12_0_30 ot_0 h (fun h => ?_)
    refine kz_if_lt (M := kt_M341) kX13_actAction_c20.2.2.2.1 (t := 358) rfl h (fun h => ?_) (fun h => ?_)
    · skip
      exact kz_weak [(0, .ref (w_adr E.2.1 12 0)), (3, .int x3)] ⟨rfl, ⟨rfl, trivial⟩⟩ rfl (zt_X13_actAction_p358 hL  h)
    · skip
      refine kz_aload_n (M := kt_M341) kX13_actAction_c20.2.2.2.2.1 rfl ?_
      refine kz_aload_n (M := kt_M341) kX13_actAction_c20.2.2.2.2.2.1 rfl ?_
      refine kz_gfc (M := kt_M341) (x := 4102) (c := 12) (o := 0) kX13_actAction_c20.2.2.2.2.2.2.1 wf_X13_199 (.inl rfl) ?_
      refine kz_iload_n (M := kt_M341) kX13_actAction_c20.2.2.2.2.2.2.2.1 rfl ?_
      refine kz_iald (M := kt_M341) (c := 12) (o := 0) (k := 30) (a := (E.2.1 4102)) kX13_actAction_c21.1 ow_12_0_30 oa_12_0_30 ot_0 h (fun h => ?_)
      refine kz_cv0 (M := kt_M341) (c := 12) (o := 0) (As := [.int (w_a w1 12 0 30 (x3).toNatClampNeg)]) (rest := []) kX13_actAction_c21.2.1 wl_X13_1070 wMv_342 rfl (.inl rfl) rfl (Nat.le_trans (Nat.le_of_ble_eq_true rfl) hL) (Nat.le_of_ble_eq_true rfl) (Nat.le_of_ble_eq_true rfl) h (fun w3 hle h => ?_) (fun _ _ _ h => kzx_no rfl h)
      have h := h hle
      exact kz_weak [(0, .ref (w_adr E.2.1 12 0)), (3, .int x3)] ⟨rfl, ⟨rfl, trivial⟩⟩ rfl (zt_X13_actAction_p358 hL  h)
def zb_X13_actAction_p318 (E : zE) (L : Nat) (Q : kx_Rs → wS → Prop) (x1 : Int32) (w : wS) : Prop := (kx_inb x1 (w_n w 12 0 29) = true ∧ zL_X13_actAction_p325 E L Q (w_a w 12 0 29 (x1).toNatClampNeg) w)
theorem zt_X13_actAction_p318 {E : zE} {L : Nat} {Q : kx_Rs → wS → Prop} {x1 : Int32} {w : wS} (hL : 30 ≤ L) (h : zb_X13_actAction_p318 E L Q x1 w) : kzE E L kt_M341 318 [(0, .ref (w_adr E.2.1 12 0)), (1, .int x1)] [] w Q := by
  unfold zb_X13_actAction_p318 at h
  refine kz_aload_n (M := kt_M341) kX13_actAction_c18.2.2.1 rfl ?_
  refine kz_gfc (M := kt_M341) (x := 4101) (c := 12) (o := 0) kX13_actAction_c18.2.2.2.1 wf_X13_196 (.inl rfl) ?_
  refine kz_iload_n (M := kt_M341) kX13_actAction_c18.2.2.2.2.1 rfl ?_
  refine kz_iald (M := kt_M341) (c := 12) (o := 0) (k := 29) (a := (E.2.1 4101)) kX13_actAction_c18.2.2.2.2.2.1 ow_12_0_29 oa_12_0_29 ot_0 h (fun h => ?_)
  refine kz_sti_n (M := kt_M341) [(0, .ref (w_adr E.2.1 12 0))] kX13_actAction_c18.2.2.2.2.2.2.1 (Nat.le_of_ble_eq_true rfl) ⟨⟨rfl, rfl, .inl rfl⟩, trivial⟩ rfl ?_
  exact kz_weak [(0, .ref (w_adr E.2.1 12 0)), (3, .int (w_a w 12 0 29 (x1).toNatClampNeg))] ⟨rfl, ⟨rfl, trivial⟩⟩ rfl h
def zb_X13_actAction_p268 (E : zE) (L : Nat) (Q : kx_Rs → wS → Prop) (x3 : Int32) (w : wS) : Prop := (if x3 < 0 then Q (.inl none) w else (kx_inb x3 (w_n w 12 0 29) = true ∧ zw E (L - 21) kt_M342 [.ref (w_adr E.2.1 12 0), .int (w_a w 12 0 29 (x3).toNatClampNeg)] w (wk0 (fun w1 => wle w w1 → (kx_inb x3 (w_n w1 12 0 32) = true ∧ zL_X13_actAction_p268 E L Q (w_a w1 12 0 32 (x3).toNatClampNeg) w1)) (fun e w => Q (.inr e) w))))
theorem zt_X13_actAction_p268 {E : zE} {L : Nat} {Q : kx_Rs → wS → Prop} {x3 : Int32} {w : wS} (hL : 30 ≤ L) (h : zb_X13_actAction_p268 E L Q x3 w) : kzE E L kt_M341 268 [(0, .ref (w_adr E.2.1 12 0)), (3, .int x3)] [] w Q := by
  unfold zb_X13_actAction_p268 at h
  refine kz_iload_n (M := kt_M341) kX13_actAction_c14.2.2.2.2.2.1 rfl ?_
  refine kz_if_lt (M := kt_M341) kX13_actAction_c14.2.2.2.2.2.2.1 (t := 292) rfl h (fun h => ?_) (fun h => ?_)
  · skip
    exact kz_ret (M := kt_M341) kX13_actAction_c16.2.2.2.1 rfl h
  · skip
    refine kz_aload_n (M := kt_M341) kX13_actAction_c14.2.2.2.2.2.2.2.1 rfl ?_
    refine kz_aload_n (M := kt_M341) kX13_actAction_c15.1 rfl ?_
    refine kz_gfc (M := kt_M341) (x := 4101) (c := 12) (o := 0) kX13_actAction_c15.2.1 wf_X13_196 (.inl rfl) ?_
    refine kz_iload_n (M := kt_M341) kX13_actAction_c15.2.2.1 rfl ?_
    refine kz_iald (M := kt_M341) (c := 12) (o := 0) (k := 29) (a := (E.2.1 4101)) kX13_actAction_c15.2.2.2.1 ow_12_0_29 oa_12_0_29 ot_0 h (fun h => ?_)
    refine kz_cv0 (M := kt_M341) (c := 12) (o := 0) (As := [.int (w_a w 12 0 29 (x3).toNatClampNeg)]) (rest := []) kX13_actAction_c15.2.2.2.2.1 wl_X13_1070 wMv_342 rfl (.inl rfl) rfl (Nat.le_trans (Nat.le_of_ble_eq_true rfl) hL) (Nat.le_of_ble_eq_true rfl) (Nat.le_of_ble_eq_true rfl) h (fun w1 hle h => ?_) (fun _ _ _ h => kzx_no rfl h)
    have h := h hle
    refine kz_aload_n (M := kt_M341) kX13_actAction_c15.2.2.2.2.2.1 rfl ?_
    refine kz_gfc (M := kt_M341) (x := 4104) (c := 12) (o := 0) kX13_actAction_c15.2.2.2.2.2.2.1 wf_X13_205 (.inl rfl) ?_
    refine kz_iload_n (M := kt_M341) kX13_actAction_c15.2.2.2.2.2.2.2.1 rfl ?_
    refine kz_iald (M := kt_M341) (c := 12) (o := 0) (k := 32) (a := (E.2.1 4104)) kX13_actAction_c16.1 ow_12_0_32 oa_12_0_32 ot_0 h (fun h => ?_)
    refine kz_sti_n (M := kt_M341) [(0, .ref (w_adr E.2.1 12 0))] kX13_actAction_c16.2.1 (Nat.le_of_ble_eq_true rfl) ⟨⟨rfl, rfl, .inl rfl⟩, trivial⟩ rfl ?_
    refine kz_goto (M := kt_M341) kX13_actAction_c16.2.2.1 (t := 268) rfl ?_
    exact kz_weak [(0, .ref (w_adr E.2.1 12 0)), (3, .int (w_a w1 12 0 32 (x3).toNatClampNeg))] ⟨rfl, ⟨rfl, trivial⟩⟩ rfl h
def zb_X13_actAction_p241 (E : zE) (L : Nat) (Q : kx_Rs → wS → Prop) (x3 : Int32) (w : wS) : Prop := (if x3 < 0 then Q (.inl none) w else zw E (L - 21) kt_M342 [.ref (w_adr E.2.1 12 0), .int x3] w (wk0 (fun w1 => wle w w1 → (kx_inb x3 (w_n w1 12 0 32) = true ∧ zL_X13_actAction_p241 E L Q (w_a w1 12 0 32 (x3).toNatClampNeg) w1)) (fun e w => Q (.inr e) w)))
theorem zt_X13_actAction_p241 {E : zE} {L : Nat} {Q : kx_Rs → wS → Prop} {x3 : Int32} {w : wS} (hL : 30 ≤ L) (h : zb_X13_actAction_p241 E L Q x3 w) : kzE E L kt_M341 241 [(0, .ref (w_adr E.2.1 12 0)), (3, .int x3)] [] w Q := by
  unfold zb_X13_actAction_p241 at h
  refine kz_iload_n (M := kt_M341) kX13_actAction_c12.2.2.2.2.1 rfl ?_
  refine kz_if_lt (M := kt_M341) kX13_actAction_c12.2.2.2.2.2.1 (t := 260) rfl h (fun h => ?_) (fun h => ?_)
  · skip
    exact kz_ret (M := kt_M341) kX13_actAction_c13.2.2.2.2.2.2.2.1 rfl h
  · skip
    refine kz_aload_n (M := kt_M341) kX13_actAction_c12.2.2.2.2.2.2.1 rfl ?_
    refine kz_iload_n (M := kt_M341) kX13_actAction_c12.2.2.2.2.2.2.2.1 rfl ?_
    refine kz_cv0 (M := kt_M341) (c := 12) (o := 0) (As := [.int x3]) (rest := []) kX13_actAction_c13.1 wl_X13_1070 wMv_342 rfl (.inl rfl) rfl (Nat.le_trans (Nat.le_of_ble_eq_true rfl) hL) (Nat.le_of_ble_eq_true rfl) (Nat.le_of_ble_eq_true rfl) h (fun w1 hle h => ?_) (fun _ _ _ h => kzx_no rfl h)
    have h := h hle
    refine kz_aload_n (M := kt_M341) kX13_actAction_c13.2.1 rfl ?_
    refine kz_gfc (M := kt_M341) (x := 4104) (c := 12) (o := 0) kX13_actAction_c13.2.2.1 wf_X13_205 (.inl rfl) ?_
    refine kz_iload_n (M := kt_M341) kX13_actAction_c13.2.2.2.1 rfl ?_
    refine kz_iald (M := kt_M341) (c := 12) (o := 0) (k := 32) (a := (E.2.1 4104)) kX13_actAction_c13.2.2.2.2.1 ow_12_0_32 oa_12_0_32 ot_0 h (fun h => ?_)
    refine kz_sti_n (M := kt_M341) [(0, .ref (w_adr E.2.1 12 0))] kX13_actAction_c13.2.2.2.2.2.1 (Nat.le_of_ble_eq_true rfl) ⟨⟨rfl, rfl, .inl rfl⟩, trivial⟩ rfl ?_
    refine kz_goto (M := kt_M341) kX13_actAction_c13.2.2.2.2.2.2.1 (t := 241) rfl ?_
    exact kz_weak [(0, .ref (w_adr E.2.1 12 0)), (3, .int (w_a w1 12 0 32 (x3).toNatClampNeg))] ⟨rfl, ⟨rfl, trivial⟩⟩ rfl h
def zb_X13_actAction_p234 (E : zE) (L : Nat) (Q : kx_Rs → wS → Prop) (x1 : Int32) (w : wS) : Prop := (kx_inb x1 (w_n w 12 0 29) = true ∧ zL_X13_actAction_p241 E L Q (w_a w 12 0 29 (x1).toNatClampNeg) w)
theorem zt_X13_actAction_p234 {E : zE} {L : Nat} {Q : kx_Rs → wS → Prop} {x1 : Int32} {w : wS} (hL : 30 ≤ L) (h : zb_X13_actAction_p234 E L Q x1 w) : kzE E L kt_M341 234 [(0, .ref (w_adr E.2.1 12 0)), (1, .int x1)] [] w Q := by
  unfold zb_X13_actAction_p234 at h
  refine kz_aload_n (M := kt_M341) kX13_actAction_c11.2.2.2.2.2.2.2.1 rfl ?_
  refine kz_gfc (M := kt_M341) (x := 4101) (c := 12) (o := 0) kX13_actAction_c12.1 wf_X13_196 (.inl rfl) ?_
  refine kz_iload_n (M := kt_M341) kX13_actAction_c12.2.1 rfl ?_
  refine kz_iald (M := kt_M341) (c := 12) (o := 0) (k := 29) (a := (E.2.1 4101)) kX13_actAction_c12.2.2.1 ow_12_0_29 oa_12_0_29 ot_0 h (fun h => ?_)
  refine kz_sti_n (M := kt_M341) [(0, .ref (w_adr E.2.1 12 0))] kX13_actAction_c12.2.2.2.1 (Nat.le_of_ble_eq_true rfl) ⟨⟨rfl, rfl, .inl rfl⟩, trivial⟩ rfl ?_
  exact kz_weak [(0, .ref (w_adr E.2.1 12 0)), (3, .int (w_a w 12 0 29 (x1).toNatClampNeg))] ⟨rfl, ⟨rfl, trivial⟩⟩ rfl h
def zb_X13_actAction_p202 (E : zE) (L : Nat) (Q : kx_Rs → wS → Prop) (w : wS) : Prop := Q (.inl none) w
theorem zt_X13_actAction_p202 {E : zE} {L : Nat} {Q : kx_Rs → wS → Prop} {w : wS} (hL : 30 ≤ L) (h : zb_X13_actAction_p202 E L Q  w) : kzE E L kt_M341 202 [(0, .ref (w_adr E.2.1 12 0))] [] w Q := by
  unfold zb_X13_actAction_p202 at h
  exact kz_ret (M := kt_M341) kX13_actAction_c9.2.2.2.2.2.1 rfl h
def zb_X13_actAction_p178 (E : zE) (L : Nat) (Q : kx_Rs → wS → Prop) (x3 : Int32) (w : wS) : Prop := (if x3 < 0 then zb_X13_actAction_p202 E L Q w else (kx_inb x3 (w_n w 12 0 30) = true ∧ zw E (L - 21) kt_M342 [.ref (w_adr E.2.1 12 0), .int (w_a w 12 0 30 (x3).toNatClampNeg)] w (wk0 (fun w1 => wle w w1 → (kx_inb x3 (w_n w1 12 0 32) = true ∧ zL_X13_actAction_p178 E L Q (w_a w1 12 0 32 (x3).toNatClampNeg) w1)) (fun e w => Q (.inr e) w))))
theorem zt_X13_actAction_p178 {E : zE} {L : Nat} {Q : kx_Rs → wS → Prop} {x3 : Int32} {w : wS} (hL : 30 ≤ L) (h : zb_X13_actAction_p178 E L Q x3 w) : kzE E L kt_M341 178 [(0, .ref (w_adr E.2.1 12 0)), (3, .int x3)] [] w Q := by
  unfold zb_X13_actAction_p178 at h
  refine kz_iload_n (M := kt_M341) kX13_actAction_c7.2.2.2.2.2.2.2.1 rfl ?_
  refine kz_if_lt (M := kt_M341) kX13_actAction_c8.1 (t := 202) rfl h (fun h => ?_) (fun h => ?_)
  · skip
    exact kz_weak [(0, .ref (w_adr E.2.1 12 0))] ⟨rfl, trivial⟩ rfl (zt_X13_actAction_p202 hL  h)
  · skip
    refine kz_aload_n (M := kt_M341) kX13_actAction_c8.2.1 rfl ?_
    refine kz_aload_n (M := kt_M341) kX13_actAction_c8.2.2.1 rfl ?_
    refine kz_gfc (M := kt_M341) (x := 4102) (c := 12) (o := 0) kX13_actAction_c8.2.2.2.1 wf_X13_199 (.inl rfl) ?_
    refine kz_iload_n (M := kt_M341) kX13_actAction_c8.2.2.2.2.1 rfl ?_
    refine kz_iald (M := kt_M341) (c := 12) (o := 0) (k := 30) (a := (E.2.1 4102)) kX13_actAction_c8.2.2.2.2.2.1 ow_12_0_30 oa_12_0_30 ot_0 h (fun h => ?_)
    refine kz_cv0 (M := kt_M341) (c := 12) (o := 0) (As := [.int (w_a w 12 0 30 (x3).toNatClampNeg)]) (rest := []) kX13_actAction_c8.2.2.2.2.2.2.1 wl_X13_1070 wMv_342 rfl (.inl rfl) rfl (Nat.le_trans (Nat.le_of_ble_eq_true rfl) hL) (Nat.le_of_ble_eq_true rfl) (Nat.le_of_ble_eq_true rfl) h (fun w1 hle h => ?_) (fun _ _ _ h => kzx_no rfl h)
    have h := h hle
    refine kz_aload_n (M := kt_M341) kX13_actAction_c8.2.2.2.2.2.2.2.1 rfl ?_
    refine kz_gfc (M := kt_M341) (x := 4104) (c := 12) (o := 0) kX13_actAction_c9.1 wf_X13_205 (.inl rfl) ?_
    refine kz_iload_n (M := kt_M341) kX13_actAction_c9.2.1 rfl ?_
    refine kz_iald (M := kt_M341) (c := 12) (o := 0) (k := 32) (a := (E.2.1 4104)) kX13_actAction_c9.2.2.1 ow_12_0_32 oa_12_0_32 ot_0 h (fun h => ?_)
    refine kz_sti_n (M := kt_M341) [(0, .ref (w_adr E.2.1 12 0))] kX13_actAction_c9.2.2.2.1 (Nat.le_of_ble_eq_true rfl) ⟨⟨rfl, rfl, .inl rfl⟩, trivial⟩ rfl ?_
    refine kz_goto (M := kt_M341) kX13_actAction_c9.2.2.2.2.1 (t := 178) rfl ?_
    exact kz_weak [(0, .ref (w_adr E.2.1 12 0)), (3, .int (w_a w1 12 0 32 (x3).toNatClampNeg))] ⟨rfl, ⟨rfl, trivial⟩⟩ rfl h
def zb_X13_actAction_p155 (E : zE) (L : Nat) (Q : kx_Rs → wS → Prop) (x1 : Int32) (w : wS) : Prop := zw E (L - 22) kt_M344 [.ref (w_adr E.2.1 12 0), .int x1] w (wk0 (fun w1 => wle w w1 → (kx_inb x1 (w_n w1 12 0 26) = true ∧ (if ¬ w_a w1 12 0 26 (x1).toNatClampNeg = 7 then zb_X13_actAction_p202 E L Q w1 else (kx_inb x1 (w_n w1 12 0 29) = true ∧ zL_X13_actAction_p178 E L Q (w_a w1 12 0 29 (x1).toNatClampNeg) w1)))) (fun e w => Q (.inr e) w))
theorem zt_X13_actAction_p155 {E : zE} {L : Nat} {Q : kx_Rs → wS → Prop} {x1 : Int32} {w : wS} (hL : 30 ≤ L) (h : zb_X13_actAction_p155 E L Q x1 w) : kzE E L kt_M341 155 [(0, .ref (w_adr E.2.1 12 0)), (1, .int x1)] [] w Q := by
  unfold zb_X13_actAction_p155 at h
  refine kz_aload_n (M := kt_M341) kX13_actAction_c6.2.1 rfl ?_
  refine kz_iload_n (M := kt_M341) kX13_actAction_c6.2.2.1 rfl ?_
  refine kz_cv0 (M := kt_M341) (c := 12) (o := 0) (As := [.int x1]) (rest := []) kX13_actAction_c6.2.2.2.1 wl_X13_1076 wMv_344 rfl (.inl rfl) rfl (Nat.le_trans (Nat.le_of_ble_eq_true rfl) hL) (Nat.le_of_ble_eq_true rfl) (Nat.le_of_ble_eq_true rfl) h (fun w1 hle h => ?_) (fun _ _ _ h => kzx_no rfl h)
  have h := h hle
  refine kz_aload_n (M := kt_M341) kX13_actAction_c6.2.2.2.2.1 rfl ?_
  refine kz_gfc (M := kt_M341) (x := 4098) (c := 12) (o := 0) kX13_actAction_c6.2.2.2.2.2.1 wf_X13_187 (.inl rfl) ?_
  refine kz_iload_n (M := kt_M341) kX13_actAction_c6.2.2.2.2.2.2.1 rfl ?_
  refine kz_iald (M := kt_M341) (c := 12) (o := 0) (k := 26) (a := (E.2.1 4098)) kX13_actAction_c6.2.2.2.2.2.2.2.1 ow_12_0_26 oa_12_0_26 ot_0 h (fun h => ?_)
  refine kz_bi (M := kt_M341) 7 kX13_actAction_c7.1 rfl ?_
  refine kz_icmp_ne (M := kt_M341) kX13_actAction_c7.2.1 (t := 202) rfl h (fun h => ?_) (fun h => ?_)
  · skip
    exact kz_weak [(0, .ref (w_adr E.2.1 12 0))] ⟨rfl, trivial⟩ rfl (zt_X13_actAction_p202 hL  h)
  · skip
    refine kz_aload_n (M := kt_M341) kX13_actAction_c7.2.2.1 rfl ?_
    refine kz_gfc (M := kt_M341) (x := 4101) (c := 12) (o := 0) kX13_actAction_c7.2.2.2.1 wf_X13_196 (.inl rfl) ?_
    refine kz_iload_n (M := kt_M341) kX13_actAction_c7.2.2.2.2.1 rfl ?_
    refine kz_iald (M := kt_M341) (c := 12) (o := 0) (k := 29) (a := (E.2.1 4101)) kX13_actAction_c7.2.2.2.2.2.1 ow_12_0_29 oa_12_0_29 ot_0 h (fun h => ?_)
    refine kz_sti_n (M := kt_M341) [(0, .ref (w_adr E.2.1 12 0))] kX13_actAction_c7.2.2.2.2.2.2.1 (Nat.le_of_ble_eq_true rfl) ⟨⟨rfl, rfl, .inl rfl⟩, trivial⟩ rfl ?_
    exact kz_weak [(0, .ref (w_adr E.2.1 12 0)), (3, .int (w_a w1 12 0 29 (x1).toNatClampNeg))] ⟨rfl, ⟨rfl, trivial⟩⟩ rfl h
def zb_X13_actAction_p140 (E : zE) (L : Nat) (Q : kx_Rs → wS → Prop) (w : wS) : Prop := Q (.inl none) w
theorem zt_X13_actAction_p140 {E : zE} {L : Nat} {Q : kx_Rs → wS → Prop} {w : wS} (hL : 30 ≤ L) (h : zb_X13_actAction_p140 E L Q  w) : kzE E L kt_M341 140 [(0, .ref (w_adr E.2.1 12 0))] [] w Q := by
  unfold zb_X13_actAction_p140 at h
  exact kz_ret (M := kt_M341) kX13_actAction_c5.2.1 rfl h
def zb_X13_actAction_p130 (E : zE) (L : Nat) (Q : kx_Rs → wS → Prop) (x2 : Int32) (x3 : Int32) (w : wS) : Prop := (kx_inb x3 (w_n w 12 0 32) = true ∧ zL_X13_actAction_p91 E L Q x2 (w_a w 12 0 32 (x3).toNatClampNeg) w)
theorem zt_X13_actAction_p130 {E : zE} {L : Nat} {Q : kx_Rs → wS → Prop} {x2 : Int32} {x3 : Int32} {w : wS} (hL : 30 ≤ L) (h : zb_X13_actAction_p130 E L Q x2 x3 w) : kzE E L kt_M341 130 [(0, .ref (w_adr E.2.1 12 0)), (2, .int x2), (3, .int x3)] [] w Q := by
  unfold zb_X13_actAction_p130 at h
  refine kz_aload_n (M := kt_M341) kX13_actAction_c4.2.2.2.1 rfl ?_
  refine kz_gfc (M := kt_M341) (x := 4104) (c := 12) (o := 0) kX13_actAction_c4.2.2.2.2.1 wf_X13_205 (.inl rfl) ?_
  refine kz_iload_n (M := kt_M341) kX13_actAction_c4.2.2.2.2.2.1 rfl ?_
  refine kz_iald (M := kt_M341) (c := 12) (o := 0) (k := 32) (a := (E.2.1 4104)) kX13_actAction_c4.2.2.2.2.2.2.1 ow_12_0_32 oa_12_0_32 ot_0 h (fun h => ?_)
  refine kz_sti_n (M := kt_M341) [(0, .ref (w_adr E.2.1 12 0)), (2, .int x2)] kX13_actAction_c4.2.2.2.2.2.2.2.1 (Nat.le_of_ble_eq_true rfl) ⟨⟨rfl, rfl, .inl rfl⟩, ⟨⟨rfl, rfl, .inr rfl⟩, trivial⟩⟩ rfl ?_
  refine kz_goto (M := kt_M341) kX13_actAction_c5.1 (t := 91) rfl ?_
  exact kz_weak [(0, .ref (w_adr E.2.1 12 0)), (2, .int x2), (3, .int (w_a w 12 0 32 (x3).toNatClampNeg))] ⟨rfl, ⟨rfl, ⟨rfl, trivial⟩⟩⟩ rfl h
def zb_X13_actAction_p91 (E : zE) (L : Nat) (Q : kx_Rs → wS → Prop) (x2 : Int32) (x3 : Int32) (w : wS) : Prop := (if x3 < 0 then zb_X13_actAction_p140 E L Q w else (if w_i w 12 0 100 < 0 then zb_X13_actAction_p140 E L Q w else zw E (L - 24) kt_M509 [.ref (w_adr E.2.1 12 0), .int x3] w (wk0 (fun w1 => wle w w1 → (kx_inb (w_i w1 12 0 100) (w_n w1 12 0 67) = true ∧ (if w_a w1 12 0 67 (w_i w1 12 0 100).toNatClampNeg ≤ w_i w1 12 0 89 then zb_X13_actAction_p130 E L Q x2 x3 w1 else zw E (L - 22) kt_M560 [.ref (w_adr E.2.1 12 0), .int 11, .int x2] w1 (wk0 (fun w3 => wle w1 w3 → zb_X13_actAction_p130 E L Q x2 x3 w3) (fun e w => Q (.inr e) w))))) (fun e w => Q (.inr e) w))))
theorem zt_X13_actAction_p91 {E : zE} {L : Nat} {Q : kx_Rs → wS → Prop} {x2 : Int32} {x3 : Int32} {w : wS} (hL : 30 ≤ L) (h : zb_X13_actAction_p91 E L Q x2 x3 w) : kzE E L kt_M341 91 [(0, .ref (w_adr E.2.1 12 0)), (2, .int x2), (3, .int x3)] [] w Q := by
  unfold zb_X13_actAction_p91 at h
  refine kz_iload_n (M := kt_M341) kX13_actAction_c1.2.2.2.2.2.2.2.1 rfl ?_
  refine kz_if_lt (M := kt_M341) kX13_actAction_c2.1 (t := 140) rfl h (fun h => ?_) (fun h => ?_)
  · skip
    exact kz_weak [(0, .ref (w_adr E.2.1 12 0))] ⟨rfl, trivial⟩ rfl (zt_X13_actAction_p140 hL  h)
  · skip
    refine kz_aload_n (M := kt_M341) kX13_actAction_c2.2.1 rfl ?_
    refine kz_gfi (M := kt_M341) (c := 12) (o := 0) kX13_actAction_c2.2.2.1 wf_X13_1067 (.inl rfl) ?_
    refine kz_if_lt (M := kt_M341) kX13_actAction_c2.2.2.2.1 (t := 140) rfl h (fun h => ?_) (fun h => ?_)
    · skip
      exact kz_weak [(0, .ref (w_adr E.2.1 12 0))] ⟨rfl, trivial⟩ rfl (zt_X13_actAction_p140 hL  h)
    · skip
      refine kz_aload_n (M := kt_M341) kX13_actAction_c2.2.2.2.2.1 rfl ?_
      refine kz_iload_n (M := kt_M341) kX13_actAction_c2.2.2.2.2.2.1 rfl ?_
      refine kz_cv0 (M := kt_M341) (c := 12) (o := 0) (As := [.int x3]) (rest := []) kX13_actAction_c2.2.2.2.2.2.2.1 wl_X13_1028 wMv_509 rfl (.inl rfl) rfl (Nat.le_trans (Nat.le_of_ble_eq_true rfl) hL) (Nat.le_of_ble_eq_true rfl) (Nat.le_of_ble_eq_true rfl) h (fun w1 hle h => ?_) (fun _ _ _ h => kzx_no rfl h)
      have h := h hle
      refine kz_aload_n (M := kt_M341) kX13_actAction_c2.2.2.2.2.2.2.2.1 rfl ?_
      refine kz_gfi (M := kt_M341) (c := 12) (o := 0) kX13_actAction_c3.1 wf_X13_974 (.inl rfl) ?_
      refine kz_aload_n (M := kt_M341) kX13_actAction_c3.2.1 rfl ?_
      refine kz_gfc (M := kt_M341) (x := 4139) (c := 12) (o := 0) kX13_actAction_c3.2.2.1 wf_X13_269 (.inl rfl) ?_
      refine kz_aload_n (M := kt_M341) kX13_actAction_c3.2.2.2.1 rfl ?_
      refine kz_gfi (M := kt_M341) (c := 12) (o := 0) kX13_actAction_c3.2.2.2.2.1 wf_X13_1067 (.inl rfl) ?_
      refine kz_iald (M := kt_M341) (c := 12) (o := 0) (k := 67) (a := (E.2.1 4139)) kX13_actAction_c3.2.2.2.2.2.1 ow_12_0_67 oa_12_0_67 ot_0 h (fun h => ?_)
      refine kz_icmp_ge (M := kt_M341) kX13_actAction_c3.2.2.2.2.2.2.1 (t := 130) rfl h (fun h => ?_) (fun h => ?_)
      · skip
        exact kz_weak [(0, .ref (w_adr E.2.1 12 0)), (2, .int x2), (3, .int x3)] ⟨rfl, ⟨rfl, ⟨rfl, trivial⟩⟩⟩ rfl (zt_X13_actAction_p130 hL  h)
      · skip
        refine kz_aload_n (M := kt_M341) kX13_actAction_c3.2.2.2.2.2.2.2.1 rfl ?_
        refine kz_bi (M := kt_M341) 11 kX13_actAction_c4.1 rfl ?_
        refine kz_iload_n (M := kt_M341) kX13_actAction_c4.2.1 rfl ?_
        refine kz_cv0 (M := kt_M341) (c := 12) (o := 0) (As := [.int 11, .int x2]) (rest := []) kX13_actAction_c4.2.2.1 wl_X13_734 wMv_560 rfl (.inl rfl) rfl (Nat.le_trans (Nat.le_of_ble_eq_true rfl) hL) (Nat.le_of_ble_eq_true rfl) (Nat.le_of_ble_eq_true rfl) h (fun w3 hle h => ?_) (fun _ _ _ h => kzx_no rfl h)
        have h := h hle
        exact kz_weak [(0, .ref (w_adr E.2.1 12 0)), (2, .int x2), (3, .int x3)] ⟨rfl, ⟨rfl, ⟨rfl, trivial⟩⟩⟩ rfl (zt_X13_actAction_p130 hL  h)
def zb_X13_actAction_p0 (E : zE) (L : Nat) (Q : kx_Rs → wS → Prop) (x1 : Int32) (w : wS) : Prop := (kx_inb x1 (w_n w 12 0 27) = true ∧ (kx_inb x1 (w_n w 12 0 26) = true ∧ (if w_a w 12 0 26 (x1).toNatClampNeg = 4 then (kx_inb x1 (w_n w 12 0 28) = true ∧ zL_X13_actAction_p91 E L Q (w_a w 12 0 27 (x1).toNatClampNeg) (w_a w 12 0 28 (x1).toNatClampNeg) w) else (if w_a w 12 0 26 (x1).toNatClampNeg = 5 then (if w_i w 12 0 100 < 0 then zb_X13_actAction_p155 E L Q x1 w else zw E (L - 22) kt_M560 [.ref (w_adr E.2.1 12 0), .int 11, .int (w_a w 12 0 27 (x1).toNatClampNeg)] w (wk0 (fun w1 => wle w w1 → zb_X13_actAction_p155 E L Q x1 w1) (fun e w => Q (.inr e) w))) else (if w_a w 12 0 26 (x1).toNatClampNeg = 6 then (if w_i w 12 0 100 < 0 then zb_X13_actAction_p155 E L Q x1 w else zw E (L - 22) kt_M560 [.ref (w_adr E.2.1 12 0), .int 11, .int (w_a w 12 0 27 (x1).toNatClampNeg)] w (wk0 (fun w3 => wle w w3 → zb_X13_actAction_p155 E L Q x1 w3) (fun e w => Q (.inr e) w))) else (if w_a w 12 0 26 (x1).toNatClampNeg = 7 then (if w_i w 12 0 100 < 0 then zb_X13_actAction_p155 E L Q x1 w else zw E (L - 22) kt_M560 [.ref (w_adr E.2.1 12 0), .int 11, .int (w_a w 12 0 27 (x1).toNatClampNeg)] w (wk0 (fun w5 => wle w w5 → zb_X13_actAction_p155 E L Q x1 w5) (fun e w => Q (.inr e) w))) else (if w_a w 12 0 26 (x1).toNatClampNeg = 8 then (if w_i w 12 0 100 < 0 then zb_X13_actAction_p155 E L Q x1 w else zw E (L - 22) kt_M560 [.ref (w_adr E.2.1 12 0), .int 11, .int (w_a w 12 0 27 (x1).toNatClampNeg)] w (wk0 (fun w7 => wle w w7 → zb_X13_actAction_p155 E L Q x1 w7) (fun e w => Q (.inr e) w))) else (if w_a w 12 0 26 (x1).toNatClampNeg = 9 then zw E (L - 30) kt_M343 [.ref (w_adr E.2.1 12 0), .int x1] w (wk0 (fun w9 => wle w w9 → Q (.inl none) w9) (fun e w => Q (.inr e) w)) else (if w_a w 12 0 26 (x1).toNatClampNeg = 10 then (kx_inb x1 (w_n w 12 0 26) = true ∧ (if ¬ w_a w 12 0 26 (x1).toNatClampNeg = 11 then zb_X13_actAction_p234 E L Q x1 w else (if w_i w 12 0 100 < 0 then zb_X13_actAction_p234 E L Q x1 w else zw E (L - 22) kt_M560 [.ref (w_adr E.2.1 12 0), .int 11, .int (w_a w 12 0 27 (x1).toNatClampNeg)] w (wk0 (fun w11 => wle w w11 → zb_X13_actAction_p234 E L Q x1 w11) (fun e w => Q (.inr e) w))))) else (if w_a w 12 0 26 (x1).toNatClampNeg = 11 then (kx_inb x1 (w_n w 12 0 26) = true ∧ (if ¬ w_a w 12 0 26 (x1).toNatClampNeg = 11 then zb_X13_actAction_p234 E L Q x1 w else (if w_i w 12 0 100 < 0 then zb_X13_actAction_p234 E L Q x1 w else zw E (L - 22) kt_M560 [.ref (w_adr E.2.1 12 0), .int 11, .int (w_a w 12 0 27 (x1).toNatClampNeg)] w (wk0 (fun w13 => wle w w13 → zb_X13_actAction_p234 E L Q x1 w13) (fun e w => Q (.inr e) w))))) else (if w_a w 12 0 26 (x1).toNatClampNeg = 12 then (kx_inb x1 (w_n w 12 0 29) = true ∧ zL_X13_actAction_p268 E L Q (w_a w 12 0 29 (x1).toNatClampNeg) w) else (if w_a w 12 0 26 (x1).toNatClampNeg = 14 then (kx_inb x1 (w_n w 12 0 29) = true ∧ zL_X13_actAction_p268 E L Q (w_a w 12 0 29 (x1).toNatClampNeg) w) else (if w_a w 12 0 26 (x1).toNatClampNeg = 16 then (kx_inb x1 (w_n w 12 0 29) = true ∧ zw E (L - 21) kt_M342 [.ref (w_adr E.2.1 12 0), .int (w_a w 12 0 29 (x1).toNatClampNeg)] w (wk0 (fun w15 => wle w w15 → Q (.inl none) w15) (fun e w => Q (.inr e) w))) else (if w_a w 12 0 26 (x1).toNatClampNeg = 17 then (if w_i w 12 0 100 < 0 then zb_X13_actAction_p318 E L Q x1 w else zw E (L - 22) kt_M560 [.ref (w_adr E.2.1 12 0), .int 11, .int (w_a w 12 0 27 (x1).toNatClampNeg)] w (wk0 (fun w17 => wle w w17 → zb_X13_actAction_p318 E L Q x1 w17) (fun e w => Q (.inr e) w))) else Q (.inl none) w))))))))))))))
theorem zt_X13_actAction_p0 {E : zE} {L : Nat} {Q : kx_Rs → wS → Prop} {x1 : Int32} {w : wS} (hL : 30 ≤ L) (h : zb_X13_actAction_p0 E L Q x1 w) : kzE E L kt_M341 0 [(0, .ref (w_adr E.2.1 12 0)), (1, .int x1)] [] w Q := by
  unfold zb_X13_actAction_p0 at h
  refine kz_aload_n (M := kt_M341) kX13_actAction_c0.1 rfl ?_
  refine kz_gfc (M := kt_M341) (x := 4099) (c := 12) (o := 0) kX13_actAction_c0.2.1 wf_X13_190 (.inl rfl) ?_
  refine kz_iload_n (M := kt_M341) kX13_actAction_c0.2.2.1 rfl ?_
  refine kz_iald (M := kt_M341) (c := 12) (o := 0) (k := 27) (a := (E.2.1 4099)) kX13_actAction_c0.2.2.2.1 ow_12_0_27 oa_12_0_27 ot_0 h (fun h => ?_)
  refine kz_sti_n (M := kt_M341) [(0, .ref (w_adr E.2.1 12 0)), (1, .int x1)] kX13_actAction_c0.2.2.2.2.1 (Nat.le_of_ble_eq_true rfl) ⟨⟨rfl, rfl, .inl rfl⟩, ⟨⟨rfl, rfl, .inr rfl⟩, trivial⟩⟩ rfl ?_
  refine kz_aload_n (M := kt_M341) kX13_actAction_c0.2.2.2.2.2.1 rfl ?_
  refine kz_gfc (M := kt_M341) (x := 4098) (c := 12) (o := 0) kX13_actAction_c0.2.2.2.2.2.2.1 wf_X13_187 (.inl rfl) ?_
  refine kz_iload_n (M := kt_M341) kX13_actAction_c0.2.2.2.2.2.2.2.1 rfl ?_
  refine kz_iald (M := kt_M341) (c := 12) (o := 0) (k := 26) (a := (E.2.1 4098)) kX13_actAction_c1.1 ow_12_0_26 oa_12_0_26 ot_0 h (fun h => ?_)
  refine kz_tsw (M := kt_M341) [(4, 84), (5, 141), (6, 141), (7, 141), (8, 141), (9, 203), (10, 209), (11, 209), (12, 261), (14, 261), (16, 293), (17, 304)] [_, _, _, _, _, _, _, _, _, _, _, _] 369 dX13_actAction_p13 (by decide +kernel) h ⟨fun h => ?_, fun h => ?_, fun h => ?_, fun h => ?_, fun h => ?_, fun h => ?_, fun h => ?_, fun h => ?_, fun h => ?_, fun h => ?_, fun h => ?_, fun h => ?_, trivial⟩ (fun h => ?_)
  · skip
    refine kz_aload_n (M := kt_M341) kX13_actAction_c1.2.2.1 rfl ?_
    refine kz_gfc (M := kt_M341) (x := 4100) (c := 12) (o := 0) kX13_actAction_c1.2.2.2.1 wf_X13_193 (.inl rfl) ?_
    refine kz_iload_n (M := kt_M341) kX13_actAction_c1.2.2.2.2.1 rfl ?_
    refine kz_iald (M := kt_M341) (c := 12) (o := 0) (k := 28) (a := (E.2.1 4100)) kX13_actAction_c1.2.2.2.2.2.1 ow_12_0_28 oa_12_0_28 ot_0 h (fun h => ?_)
    refine kz_sti_n (M := kt_M341) [(0, .ref (w_adr E.2.1 12 0)), (2, .int (w_a w 12 0 27 (x1).toNatClampNeg))] kX13_actAction_c1.2.2.2.2.2.2.1 (Nat.le_of_ble_eq_true rfl) ⟨⟨rfl, rfl, .inl rfl⟩, ⟨⟨rfl, rfl, .inr rfl⟩, trivial⟩⟩ rfl ?_
    exact kz_weak [(0, .ref (w_adr E.2.1 12 0)), (2, .int (w_a w 12 0 27 (x1).toNatClampNeg)), (3, .int (w_a w 12 0 28 (x1).toNatClampNeg))] ⟨rfl, ⟨rfl, ⟨rfl, trivial⟩⟩⟩ rfl h
  · skip
    refine kz_aload_n (M := kt_M341) kX13_actAction_c5.2.2.1 rfl ?_
    refine kz_gfi (M := kt_M341) (c := 12) (o := 0) kX13_actAction_c5.2.2.2.1 wf_X13_1067 (.inl rfl) ?_
    refine kz_if_lt (M := kt_M341) kX13_actAction_c5.2.2.2.2.1 (t := 155) rfl h (fun h => ?_) (fun h => ?_)
    · skip
      exact kz_weak [(0, .ref (w_adr E.2.1 12 0)), (1, .int x1)] ⟨rfl, ⟨rfl, trivial⟩⟩ rfl (zt_X13_actAction_p155 hL  h)
    · skip
      refine kz_aload_n (M := kt_M341) kX13_actAction_c5.2.2.2.2.2.1 rfl ?_
      refine kz_bi (M := kt_M341) 11 kX13_actAction_c5.2.2.2.2.2.2.1 rfl ?_
      refine kz_iload_n (M := kt_M341) kX13_actAction_c5.2.2.2.2.2.2.2.1 rfl ?_
      refine kz_cv0 (M := kt_M341) (c := 12) (o := 0) (As := [.int 11, .int (w_a w 12 0 27 (x1).toNatClampNeg)]) (rest := []) kX13_actAction_c6.1 wl_X13_734 wMv_560 rfl (.inl rfl) rfl (Nat.le_trans (Nat.le_of_ble_eq_true rfl) hL) (Nat.le_of_ble_eq_true rfl) (Nat.le_of_ble_eq_true rfl) h (fun w1 hle h => ?_) (fun _ _ _ h => kzx_no rfl h)
      have h := h hle
      exact kz_weak [(0, .ref (w_adr E.2.1 12 0)), (1, .int x1)] ⟨rfl, ⟨rfl, trivial⟩⟩ rfl (zt_X13_actAction_p155 hL  h)
  · skip
    refine kz_aload_n (M := kt_M341) kX13_actAction_c5.2.2.1 rfl ?_
    refine kz_gfi (M := kt_M341) (c := 12) (o := 0) kX13_actAction_c5.2.2.2.1 wf_X13_1067 (.inl rfl) ?_
    refine kz_if_lt (M := kt_M341) kX13_actAction_c5.2.2.2.2.1 (t := 155) rfl h (fun h => ?_) (fun h => ?_)
    · skip
      exact kz_weak [(0, .ref (w_adr E.2.1 12 0)), (1, .int x1)] ⟨rfl, ⟨rfl, trivial⟩⟩ rfl (zt_X13_actAction_p155 hL  h)
    · skip
      refine kz_aload_n (M := kt_M341) kX13_actAction_c5.2.2.2.2.2.1 rfl ?_
      refine kz_bi (M := kt_M341) 11 kX13_actAction_c5.2.2.2.2.2.2.1 rfl ?_
      refine kz_iload_n (M := kt_M341) kX13_actAction_c5.2.2.2.2.2.2.2.1 rfl ?_
      refine kz_cv0 (M := kt_M341) (c := 12) (o := 0) (As := [.int 11, .int (w_a w 12 0 27 (x1).toNatClampNeg)]) (rest := []) kX13_actAction_c6.1 wl_X13_734 wMv_560 rfl (.inl rfl) rfl (Nat.le_trans (Nat.le_of_ble_eq_true rfl) hL) (Nat.le_of_ble_eq_true rfl) (Nat.le_of_ble_eq_true rfl) h (fun w3 hle h => ?_) (fun _ _ _ h => kzx_no rfl h)
      have h := h hle
      exact kz_weak [(0, .ref (w_adr E.2.1 12 0)), (1, .int x1)] ⟨rfl, ⟨rfl, trivial⟩⟩ rfl (zt_X13_actAction_p155 hL  h)
  · skip
    refine kz_aload_n (M := kt_M341) kX13_actAction_c5.2.2.1 rfl ?_
    refine kz_gfi (M := kt_M341) (c := 12) (o := 0) kX13_actAction_c5.2.2.2.1 wf_X13_1067 (.inl rfl) ?_
    refine kz_if_lt (M := kt_M341) kX13_actAction_c5.2.2.2.2.1 (t := 155) rfl h (fun h => ?_) (fun h => ?_)
    · skip
      exact kz_weak [(0, .ref (w_adr E.2.1 12 0)), (1, .int x1)] ⟨rfl, ⟨rfl, trivial⟩⟩ rfl (zt_X13_actAction_p155 hL  h)
    · skip
      refine kz_aload_n (M := kt_M341) kX13_actAction_c5.2.2.2.2.2.1 rfl ?_
      refine kz_bi (M := kt_M341) 11 kX13_actAction_c5.2.2.2.2.2.2.1 rfl ?_
      refine kz_iload_n (M := kt_M341) kX13_actAction_c5.2.2.2.2.2.2.2.1 rfl ?_
      refine kz_cv0 (M := kt_M341) (c := 12) (o := 0) (As := [.int 11, .int (w_a w 12 0 27 (x1).toNatClampNeg)]) (rest := []) kX13_actAction_c6.1 wl_X13_734 wMv_560 rfl (.inl rfl) rfl (Nat.le_trans (Nat.le_of_ble_eq_true rfl) hL) (Nat.le_of_ble_eq_true rfl) (Nat.le_of_ble_eq_true rfl) h (fun w5 hle h => ?_) (fun _ _ _ h => kzx_no rfl h)
      have h := h hle
      exact kz_weak [(0, .ref (w_adr E.2.1 12 0)), (1, .int x1)] ⟨rfl, ⟨rfl, trivial⟩⟩ rfl (zt_X13_actAction_p155 hL  h)
  · skip
    refine kz_aload_n (M := kt_M341) kX13_actAction_c5.2.2.1 rfl ?_
    refine kz_gfi (M := kt_M341) (c := 12) (o := 0) kX13_actAction_c5.2.2.2.1 wf_X13_1067 (.inl rfl) ?_
    refine kz_if_lt (M := kt_M341) kX13_actAction_c5.2.2.2.2.1 (t := 155) rfl h (fun h => ?_) (fun h => ?_)
    · skip
      exact kz_weak [(0, .ref (w_adr E.2.1 12 0)), (1, .int x1)] ⟨rfl, ⟨rfl, trivial⟩⟩ rfl (zt_X13_actAction_p155 hL  h)
    · skip
      refine kz_aload_n (M := kt_M341) kX13_actAction_c5.2.2.2.2.2.1 rfl ?_
      refine kz_bi (M := kt_M341) 11 kX13_actAction_c5.2.2.2.2.2.2.1 rfl ?_
      refine kz_iload_n (M := kt_M341) kX13_actAction_c5.2.2.2.2.2.2.2.1 rfl ?_
      refine kz_cv0 (M := kt_M341) (c := 12) (o := 0) (As := [.int 11, .int (w_a w 12 0 27 (x1).toNatClampNeg)]) (rest := []) kX13_actAction_c6.1 wl_X13_734 wMv_560 rfl (.inl rfl) rfl (Nat.le_trans (Nat.le_of_ble_eq_true rfl) hL) (Nat.le_of_ble_eq_true rfl) (Nat.le_of_ble_eq_true rfl) h (fun w7 hle h => ?_) (fun _ _ _ h => kzx_no rfl h)
      have h := h hle
      exact kz_weak [(0, .ref (w_adr E.2.1 12 0)), (1, .int x1)] ⟨rfl, ⟨rfl, trivial⟩⟩ rfl (zt_X13_actAction_p155 hL  h)
  · skip
    refine kz_aload_n (M := kt_M341) kX13_actAction_c9.2.2.2.2.2.2.1 rfl ?_
    refine kz_iload_n (M := kt_M341) kX13_actAction_c9.2.2.2.2.2.2.2.1 rfl ?_
    refine kz_cv0 (M := kt_M341) (c := 12) (o := 0) (As := [.int x1]) (rest := []) kX13_actAction_c10.1 wl_X13_1079 wMv_343 rfl (.inl rfl) rfl (Nat.le_trans (Nat.le_of_ble_eq_true rfl) hL) (Nat.le_of_ble_eq_true rfl) (Nat.le_of_ble_eq_true rfl) h (fun w9 hle h => ?_) (fun _ _ _ h => kzx_no rfl h)
    have h := h hle
    exact kz_ret (M := kt_M341) kX13_actAction_c10.2.1 rfl h
  · skip
    refine kz_aload_n (M := kt_M341) kX13_actAction_c10.2.2.1 rfl ?_
    refine kz_gfc (M := kt_M341) (x := 4098) (c := 12) (o := 0) kX13_actAction_c10.2.2.2.1 wf_X13_187 (.inl rfl) ?_
    refine kz_iload_n (M := kt_M341) kX13_actAction_c10.2.2.2.2.1 rfl ?_
    refine kz_iald (M := kt_M341) (c := 12) (o := 0) (k := 26) (a := (E.2.1 4098)) kX13_actAction_c10.2.2.2.2.2.1 ow_12_0_26 oa_12_0_26 ot_0 h (fun h => ?_)
    refine kz_bi (M := kt_M341) 11 kX13_actAction_c10.2.2.2.2.2.2.1 rfl ?_
    refine kz_icmp_ne (M := kt_M341) kX13_actAction_c10.2.2.2.2.2.2.2.1 (t := 234) rfl h (fun h => ?_) (fun h => ?_)
    · skip
      exact kz_weak [(0, .ref (w_adr E.2.1 12 0)), (1, .int x1)] ⟨rfl, ⟨rfl, trivial⟩⟩ rfl (zt_X13_actAction_p234 hL  h)
    · skip
      refine kz_aload_n (M := kt_M341) kX13_actAction_c11.1 rfl ?_
      refine kz_gfi (M := kt_M341) (c := 12) (o := 0) kX13_actAction_c11.2.1 wf_X13_1067 (.inl rfl) ?_
      refine kz_if_lt (M := kt_M341) kX13_actAction_c11.2.2.1 (t := 234) rfl h (fun h => ?_) (fun h => ?_)
      · skip
        exact kz_weak [(0, .ref (w_adr E.2.1 12 0)), (1, .int x1)] ⟨rfl, ⟨rfl, trivial⟩⟩ rfl (zt_X13_actAction_p234 hL  h)
      · skip
        refine kz_aload_n (M := kt_M341) kX13_actAction_c11.2.2.2.1 rfl ?_
        refine kz_bi (M := kt_M341) 11 kX13_actAction_c11.2.2.2.2.1 rfl ?_
        refine kz_iload_n (M := kt_M341) kX13_actAction_c11.2.2.2.2.2.1 rfl ?_
        refine kz_cv0 (M := kt_M341) (c := 12) (o := 0) (As := [.int 11, .int (w_a w 12 0 27 (x1).toNatClampNeg)]) (rest := []) kX13_actAction_c11.2.2.2.2.2.2.1 wl_X13_734 wMv_560 rfl (.inl rfl) rfl (Nat.le_trans (Nat.le_of_ble_eq_true rfl) hL) (Nat.le_of_ble_eq_true rfl) (Nat.le_of_ble_eq_true rfl) h (fun w11 hle h => ?_) (fun _ _ _ h => kzx_no rfl h)
        have h := h hle
        exact kz_weak [(0, .ref (w_adr E.2.1 12 0)), (1, .int x1)] ⟨rfl, ⟨rfl, trivial⟩⟩ rfl (zt_X13_actAction_p234 hL  h)
  · skip
    refine kz_aload_n (M := kt_M341) kX13_actAction_c10.2.2.1 rfl ?_
    refine kz_gfc (M := kt_M341) (x := 4098) (c := 12) (o := 0) kX13_actAction_c10.2.2.2.1 wf_X13_187 (.inl rfl) ?_
    refine kz_iload_n (M := kt_M341) kX13_actAction_c10.2.2.2.2.1 rfl ?_
    refine kz_iald (M := kt_M341) (c := 12) (o := 0) (k := 26) (a := (E.2.1 4098)) kX13_actAction_c10.2.2.2.2.2.1 ow_12_0_26 oa_12_0_26 ot_0 h (fun h => ?_)
    refine kz_bi (M := kt_M341) 11 kX13_actAction_c10.2.2.2.2.2.2.1 rfl ?_
    refine kz_icmp_ne (M := kt_M341) kX13_actAction_c10.2.2.2.2.2.2.2.1 (t := 234) rfl h (fun h => ?_) (fun h => ?_)
    · skip
      exact kz_weak [(0, .ref (w_adr E.2.1 12 0)), (1, .int x1)] ⟨rfl, ⟨rfl, trivial⟩⟩ rfl (zt_X13_actAction_p234 hL  h)
    · skip
      refine kz_aload_n (M := kt_M341) kX13_actAction_c11.1 rfl ?_
      refine kz_gfi (M := kt_M341) (c := 12) (o := 0) kX13_actAction_c11.2.1 wf_X13_1067 (.inl rfl) ?_
      refine kz_if_lt (M := kt_M341) kX13_actAction_c11.2.2.1 (t := 234) rfl h (fun h => ?_) (fun h => ?_)
      · skip
        exact kz_weak [(0, .ref (w_adr E.2.1 12 0)), (1, .int x1)] ⟨rfl, ⟨rfl, trivial⟩⟩ rfl (zt_X13_actAction_p234 hL  h)
      · skip
        refine kz_aload_n (M := kt_M341) kX13_actAction_c11.2.2.2.1 rfl ?_
        refine kz_bi (M := kt_M341) 11 kX13_actAction_c11.2.2.2.2.1 rfl ?_
        refine kz_iload_n (M := kt_M341) kX13_actAction_c11.2.2.2.2.2.1 rfl ?_
        refine kz_cv0 (M := kt_M341) (c := 12) (o := 0) (As := [.int 11, .int (w_a w 12 0 27 (x1).toNatClampNeg)]) (rest := []) kX13_actAction_c11.2.2.2.2.2.2.1 wl_X13_734 wMv_560 rfl (.inl rfl) rfl (Nat.le_trans (Nat.le_of_ble_eq_true rfl) hL) (Nat.le_of_ble_eq_true rfl) (Nat.le_of_ble_eq_true rfl) h (fun w13 hle h => ?_) (fun _ _ _ h => kzx_no rfl h)
        have h := h hle
        exact kz_weak [(0, .ref (w_adr E.2.1 12 0)), (1, .int x1)] ⟨rfl, ⟨rfl, trivial⟩⟩ rfl (zt_X13_actAction_p234 hL  h)
  · skip
    refine kz_aload_n (M := kt_M341) kX13_actAction_c14.1 rfl ?_
    refine kz_gfc (M := kt_M341) (x := 4101) (c := 12) (o := 0) kX13_actAction_c14.2.1 wf_X13_196 (.inl rfl) ?_
    refine kz_iload_n (M := kt_M341) kX13_actAction_c14.2.2.1 rfl ?_
    refine kz_iald (M := kt_M341) (c := 12) (o := 0) (k := 29) (a := (E.2.1 4101)) kX13_actAction_c14.2.2.2.1 ow_12_0_29 oa_12_0_29 ot_0 h (fun h => ?_)
    refine kz_sti_n (M := kt_M341) [(0, .ref (w_adr E.2.1 12 0))] kX13_actAction_c14.2.2.2.2.1 (Nat.le_of_ble_eq_true rfl) ⟨⟨rfl, rfl, .inl rfl⟩, trivial⟩ rfl ?_
    exact kz_weak [(0, .ref (w_adr E.2.1 12 0)), (3, .int (w_a w 12 0 29 (x1).toNatClampNeg))] ⟨rfl, ⟨rfl, trivial⟩⟩ rfl h
  · skip
    refine kz_aload_n (M := kt_M341) kX13_actAction_c14.1 rfl ?_
    refine kz_gfc (M := kt_M341) (x := 4101) (c := 12) (o := 0) kX13_actAction_c14.2.1 wf_X13_196 (.inl rfl) ?_
    refine kz_iload_n (M := kt_M341) kX13_actAction_c14.2.2.1 rfl ?_
    refine kz_iald (M := kt_M341) (c := 12) (o := 0) (k := 29) (a := (E.2.1 4101)) kX13_actAction_c14.2.2.2.1 ow_12_0_29 oa_12_0_29 ot_0 h (fun h => ?_)
    refine kz_sti_n (M := kt_M341) [(0, .ref (w_adr E.2.1 12 0))] kX13_actAction_c14.2.2.2.2.1 (Nat.le_of_ble_eq_true rfl) ⟨⟨rfl, rfl, .inl rfl⟩, trivial⟩ rfl ?_
    exact kz_weak [(0, .ref (w_adr E.2.1 12 0)), (3, .int (w_a w 12 0 29 (x1).toNatClampNeg))] ⟨rfl, ⟨rfl, trivial⟩⟩ rfl h
  · skip
    refine kz_aload_n (M := kt_M341) kX13_actAction_c16.2.2.2.2.1 rfl ?_
    refine kz_aload_n (M := kt_M341) kX13_actAction_c16.2.2.2.2.2.1 rfl ?_
    refine kz_gfc (M := kt_M341) (x := 4101) (c := 12) (o := 0) kX13_actAction_c16.2.2.2.2.2.2.1 wf_X13_196 (.inl rfl) ?_
    refine kz_iload_n (M := kt_M341) kX13_actAction_c16.2.2.2.2.2.2.2.1 rfl ?_
    refine kz_iald (M := kt_M341) (c := 12) (o := 0) (k := 29) (a := (E.2.1 4101)) kX13_actAction_c17.1 ow_12_0_29 oa_12_0_29 ot_0 h (fun h => ?_)
    refine kz_cv0 (M := kt_M341) (c := 12) (o := 0) (As := [.int (w_a w 12 0 29 (x1).toNatClampNeg)]) (rest := []) kX13_actAction_c17.2.1 wl_X13_1070 wMv_342 rfl (.inl rfl) rfl (Nat.le_trans (Nat.le_of_ble_eq_true rfl) hL) (Nat.le_of_ble_eq_true rfl) (Nat.le_of_ble_eq_true rfl) h (fun w15 hle h => ?_) (fun _ _ _ h => kzx_no rfl h)
    have h := h hle
    exact kz_ret (M := kt_M341) kX13_actAction_c17.2.2.1 rfl h
  · skip
    refine kz_aload_n (M := kt_M341) kX13_actAction_c17.2.2.2.1 rfl ?_
    refine kz_gfi (M := kt_M341) (c := 12) (o := 0) kX13_actAction_c17.2.2.2.2.1 wf_X13_1067 (.inl rfl) ?_
    refine kz_if_lt (M := kt_M341) kX13_actAction_c17.2.2.2.2.2.1 (t := 318) rfl h (fun h => ?_) (fun h => ?_)
    · skip
      exact kz_weak [(0, .ref (w_adr E.2.1 12 0)), (1, .int x1)] ⟨rfl, ⟨rfl, trivial⟩⟩ rfl (zt_X13_actAction_p318 hL  h)
    · skip
      refine kz_aload_n (M := kt_M341) kX13_actAction_c17.2.2.2.2.2.2.1 rfl ?_
      refine kz_bi (M := kt_M341) 11 kX13_actAction_c17.2.2.2.2.2.2.2.1 rfl ?_
      refine kz_iload_n (M := kt_M341) kX13_actAction_c18.1 rfl ?_
      refine kz_cv0 (M := kt_M341) (c := 12) (o := 0) (As := [.int 11, .int (w_a w 12 0 27 (x1).toNatClampNeg)]) (rest := []) kX13_actAction_c18.2.1 wl_X13_734 wMv_560 rfl (.inl rfl) rfl (Nat.le_trans (Nat.le_of_ble_eq_true rfl) hL) (Nat.le_of_ble_eq_true rfl) (Nat.le_of_ble_eq_true rfl) h (fun w17 hle h => ?_) (fun _ _ _ h => kzx_no rfl h)
      have h := h hle
      exact kz_weak [(0, .ref (w_adr E.2.1 12 0)), (1, .int x1)] ⟨rfl, ⟨rfl, trivial⟩⟩ rfl (zt_X13_actAction_p318 hL  h)
  · skip
    exact kz_ret (M := kt_M341) kX13_actAction_c22.2.1 rfl h
def zb_X13_actChannel_p62 (E : zE) (L : Nat) (Q : kx_Rs → wS → Prop) (w : wS) : Prop := Q (.inl none) w
theorem zt_X13_actChannel_p62 {E : zE} {L : Nat} {Q : kx_Rs → wS → Prop} {w : wS} (hL : 24 ≤ L) (h : zb_X13_actChannel_p62 E L Q  w) : kzE E L kt_M344 62 [(0, .ref (w_adr E.2.1 12 0))] [] w Q := by
  unfold zb_X13_actChannel_p62 at h
  exact kz_ret (M := kt_M344) kX13_actChannel_c4.2.2.1 rfl h
def zb_X13_actChannel_p50 (E : zE) (L : Nat) (Q : kx_Rs → wS → Prop) (x1 : Int32) (w : wS) : Prop := (kx_inb x1 (w_n w 12 0 27) = true ∧ zw E (L - 22) kt_M560 [.ref (w_adr E.2.1 12 0), .int 11, .int (w_a w 12 0 27 (x1).toNatClampNeg)] w (wk0 (fun w1 => wle w w1 → zb_X13_actChannel_p62 E L Q w1) (fun e w => Q (.inr e) w)))
theorem zt_X13_actChannel_p50 {E : zE} {L : Nat} {Q : kx_Rs → wS → Prop} {x1 : Int32} {w : wS} (hL : 24 ≤ L) (h : zb_X13_actChannel_p50 E L Q x1 w) : kzE E L kt_M344 50 [(0, .ref (w_adr E.2.1 12 0)), (1, .int x1)] [] w Q := by
  unfold zb_X13_actChannel_p50 at h
  refine kz_aload_n (M := kt_M344) kX13_actChannel_c3.2.2.2.1 rfl ?_
  refine kz_bi (M := kt_M344) 11 kX13_actChannel_c3.2.2.2.2.1 rfl ?_
  refine kz_aload_n (M := kt_M344) kX13_actChannel_c3.2.2.2.2.2.1 rfl ?_
  refine kz_gfc (M := kt_M344) (x := 4099) (c := 12) (o := 0) kX13_actChannel_c3.2.2.2.2.2.2.1 wf_X13_190 (.inl rfl) ?_
  refine kz_iload_n (M := kt_M344) kX13_actChannel_c3.2.2.2.2.2.2.2.1 rfl ?_
  refine kz_iald (M := kt_M344) (c := 12) (o := 0) (k := 27) (a := (E.2.1 4099)) kX13_actChannel_c4.1 ow_12_0_27 oa_12_0_27 ot_0 h (fun h => ?_)
  refine kz_cv0 (M := kt_M344) (c := 12) (o := 0) (As := [.int 11, .int (w_a w 12 0 27 (x1).toNatClampNeg)]) (rest := []) kX13_actChannel_c4.2.1 wl_X13_734 wMv_560 rfl (.inl rfl) rfl (Nat.le_trans (Nat.le_of_ble_eq_true rfl) hL) (Nat.le_of_ble_eq_true rfl) (Nat.le_of_ble_eq_true rfl) h (fun w1 hle h => ?_) (fun _ _ _ h => kzx_no rfl h)
  have h := h hle
  exact kz_weak [(0, .ref (w_adr E.2.1 12 0))] ⟨rfl, trivial⟩ rfl (zt_X13_actChannel_p62 hL  h)
def zb_X13_actChannel_p38 (E : zE) (L : Nat) (Q : kx_Rs → wS → Prop) (x1 : Int32) (x2 : Int32) (w : wS) : Prop := (if ¬ w_i w 12 0 89 = 1 then zb_X13_actChannel_p62 E L Q w else (if x2 = 0 then zb_X13_actChannel_p62 E L Q w else zb_X13_actChannel_p50 E L Q x1 w))
theorem zt_X13_actChannel_p38 {E : zE} {L : Nat} {Q : kx_Rs → wS → Prop} {x1 : Int32} {x2 : Int32} {w : wS} (hL : 24 ≤ L) (h : zb_X13_actChannel_p38 E L Q x1 x2 w) : kzE E L kt_M344 38 [(0, .ref (w_adr E.2.1 12 0)), (1, .int x1), (2, .int x2)] [] w Q := by
  unfold zb_X13_actChannel_p38 at h
  refine kz_aload_n (M := kt_M344) kX13_actChannel_c2.2.2.2.2.2.1 rfl ?_
  refine kz_gfi (M := kt_M344) (c := 12) (o := 0) kX13_actChannel_c2.2.2.2.2.2.2.1 wf_X13_974 (.inl rfl) ?_
  refine kz_ic (M := kt_M344) 1 kX13_actChannel_c2.2.2.2.2.2.2.2.1 rfl ?_
  refine kz_icmp_ne (M := kt_M344) kX13_actChannel_c3.1 (t := 62) rfl h (fun h => ?_) (fun h => ?_)
  · skip
    exact kz_weak [(0, .ref (w_adr E.2.1 12 0))] ⟨rfl, trivial⟩ rfl (zt_X13_actChannel_p62 hL  h)
  · skip
    refine kz_iload_n (M := kt_M344) kX13_actChannel_c3.2.1 rfl ?_
    refine kz_if_eq (M := kt_M344) kX13_actChannel_c3.2.2.1 (t := 62) rfl h (fun h => ?_) (fun h => ?_)
    · skip
      exact kz_weak [(0, .ref (w_adr E.2.1 12 0))] ⟨rfl, trivial⟩ rfl (zt_X13_actChannel_p62 hL  h)
    · skip
      exact kz_weak [(0, .ref (w_adr E.2.1 12 0)), (1, .int x1)] ⟨rfl, ⟨rfl, trivial⟩⟩ rfl (zt_X13_actChannel_p50 hL  h)
def zb_X13_actChannel_p26 (E : zE) (L : Nat) (Q : kx_Rs → wS → Prop) (x1 : Int32) (y0 : Int32) (w : wS) : Prop := (if ¬ w_i w 12 0 89 = 0 then zb_X13_actChannel_p38 E L Q x1 y0 w else (if y0 = 0 then zb_X13_actChannel_p50 E L Q x1 w else zb_X13_actChannel_p38 E L Q x1 y0 w))
theorem zt_X13_actChannel_p26 {E : zE} {L : Nat} {Q : kx_Rs → wS → Prop} {x1 : Int32} {y0 : Int32} {w : wS} (hL : 24 ≤ L) (h : zb_X13_actChannel_p26 E L Q x1 y0 w) : kzE E L kt_M344 26 [(0, .ref (w_adr E.2.1 12 0)), (1, .int x1)] [.int y0] w Q := by
  unfold zb_X13_actChannel_p26 at h
  refine kz_sti_n (M := kt_M344) [(0, .ref (w_adr E.2.1 12 0)), (1, .int x1)] kX13_actChannel_c1.2.2.2.2.2.2.2.1 (Nat.le_of_ble_eq_true rfl) ⟨⟨rfl, rfl, .inl rfl⟩, ⟨⟨rfl, rfl, .inr rfl⟩, trivial⟩⟩ rfl ?_
  refine kz_aload_n (M := kt_M344) kX13_actChannel_c2.1 rfl ?_
  refine kz_gfi (M := kt_M344) (c := 12) (o := 0) kX13_actChannel_c2.2.1 wf_X13_974 (.inl rfl) ?_
  refine kz_if_ne (M := kt_M344) kX13_actChannel_c2.2.2.1 (t := 38) rfl h (fun h => ?_) (fun h => ?_)
  · skip
    exact kz_weak [(0, .ref (w_adr E.2.1 12 0)), (1, .int x1), (2, .int y0)] ⟨rfl, ⟨rfl, ⟨rfl, trivial⟩⟩⟩ rfl (zt_X13_actChannel_p38 hL  h)
  · skip
    refine kz_iload_n (M := kt_M344) kX13_actChannel_c2.2.2.2.1 rfl ?_
    refine kz_if_eq (M := kt_M344) kX13_actChannel_c2.2.2.2.2.1 (t := 50) rfl h (fun h => ?_) (fun h => ?_)
    · skip
      exact kz_weak [(0, .ref (w_adr E.2.1 12 0)), (1, .int x1)] ⟨rfl, ⟨rfl, trivial⟩⟩ rfl (zt_X13_actChannel_p50 hL  h)
    · skip
      exact kz_weak [(0, .ref (w_adr E.2.1 12 0)), (1, .int x1), (2, .int y0)] ⟨rfl, ⟨rfl, ⟨rfl, trivial⟩⟩⟩ rfl (zt_X13_actChannel_p38 hL  h)
def zb_X13_actChannel_p0 (E : zE) (L : Nat) (Q : kx_Rs → wS → Prop) (x1 : Int32) (w : wS) : Prop := (kx_inb x1 (w_n w 12 0 28) = true ∧ zw E (L - 24) kt_M509 [.ref (w_adr E.2.1 12 0), .int (w_a w 12 0 28 (x1).toNatClampNeg)] w (wk0 (fun w1 => wle w w1 → (kx_inb x1 (w_n w1 12 0 26) = true ∧ (if ¬ w_a w1 12 0 26 (x1).toNatClampNeg = 8 then zb_X13_actChannel_p26 E L Q x1 0 w1 else zb_X13_actChannel_p26 E L Q x1 1 w1))) (fun e w => Q (.inr e) w)))
theorem zt_X13_actChannel_p0 {E : zE} {L : Nat} {Q : kx_Rs → wS → Prop} {x1 : Int32} {w : wS} (hL : 24 ≤ L) (h : zb_X13_actChannel_p0 E L Q x1 w) : kzE E L kt_M344 0 [(0, .ref (w_adr E.2.1 12 0)), (1, .int x1)] [] w Q := by
  unfold zb_X13_actChannel_p0 at h
  refine kz_aload_n (M := kt_M344) kX13_actChannel_c0.1 rfl ?_
  refine kz_aload_n (M := kt_M344) kX13_actChannel_c0.2.1 rfl ?_
  refine kz_gfc (M := kt_M344) (x := 4100) (c := 12) (o := 0) kX13_actChannel_c0.2.2.1 wf_X13_193 (.inl rfl) ?_
  refine kz_iload_n (M := kt_M344) kX13_actChannel_c0.2.2.2.1 rfl ?_
  refine kz_iald (M := kt_M344) (c := 12) (o := 0) (k := 28) (a := (E.2.1 4100)) kX13_actChannel_c0.2.2.2.2.1 ow_12_0_28 oa_12_0_28 ot_0 h (fun h => ?_)
  refine kz_cv0 (M := kt_M344) (c := 12) (o := 0) (As := [.int (w_a w 12 0 28 (x1).toNatClampNeg)]) (rest := []) kX13_actChannel_c0.2.2.2.2.2.1 wl_X13_1028 wMv_509 rfl (.inl rfl) rfl (Nat.le_trans (Nat.le_of_ble_eq_true rfl) hL) (Nat.le_of_ble_eq_true rfl) (Nat.le_of_ble_eq_true rfl) h (fun w1 hle h => ?_) (fun _ _ _ h => kzx_no rfl h)
  have h := h hle
  refine kz_aload_n (M := kt_M344) kX13_actChannel_c0.2.2.2.2.2.2.1 rfl ?_
  refine kz_gfc (M := kt_M344) (x := 4098) (c := 12) (o := 0) kX13_actChannel_c0.2.2.2.2.2.2.2.1 wf_X13_187 (.inl rfl) ?_
  refine kz_iload_n (M := kt_M344) kX13_actChannel_c1.1 rfl ?_
  refine kz_iald (M := kt_M344) (c := 12) (o := 0) (k := 26) (a := (E.2.1 4098)) kX13_actChannel_c1.2.1 ow_12_0_26 oa_12_0_26 ot_0 h (fun h => ?_)
  refine kz_bi (M := kt_M344) 8 kX13_actChannel_c1.2.2.1 rfl ?_
  refine kz_icmp_ne (M := kt_M344) kX13_actChannel_c1.2.2.2.1 (t := 25) rfl h (fun h => ?_) (fun h => ?_)
  · skip
    refine kz_ic (M := kt_M344) 0 kX13_actChannel_c1.2.2.2.2.2.2.1 rfl ?_
    exact kz_weak [(0, .ref (w_adr E.2.1 12 0)), (1, .int x1)] ⟨rfl, ⟨rfl, trivial⟩⟩ rfl (zt_X13_actChannel_p26 hL  h)
  · skip
    refine kz_ic (M := kt_M344) 1 kX13_actChannel_c1.2.2.2.2.1 rfl ?_
    refine kz_goto (M := kt_M344) kX13_actChannel_c1.2.2.2.2.2.1 (t := 26) rfl ?_
    exact kz_weak [(0, .ref (w_adr E.2.1 12 0)), (1, .int x1)] ⟨rfl, ⟨rfl, trivial⟩⟩ rfl (zt_X13_actChannel_p26 hL  h)
def zL_X13_actCall_p367 (E : zE) (L : Nat) (Q : kx_Rs → wS → Prop) (x2 : Int32) (x3 : Int32) (x4 : Int32) (x5 : Int32) (x6 : Int32) (x7 : Int32) (x8 : Int32) (w : wS) : Prop := kzE E L kt_M343 367 [(0, .ref (w_adr E.2.1 12 0)), (2, .int x2), (3, .int x3), (4, .int x4), (5, .int x5), (6, .int x6), (7, .int x7), (8, .int x8)] [] w Q
def zL_X13_actCall_p292 (E : zE) (L : Nat) (Q : kx_Rs → wS → Prop) (x2 : Int32) (x3 : Int32) (x4 : Int32) (x5 : Int32) (x6 : Int32) (x7 : Int32) (x8 : Int32) (w : wS) : Prop := kzE E L kt_M343 292 [(0, .ref (w_adr E.2.1 12 0)), (2, .int x2), (3, .int x3), (4, .int x4), (5, .int x5), (6, .int x6), (7, .int x7), (8, .int x8)] [] w Q
def zL_X13_actCall_p258 (E : zE) (L : Nat) (Q : kx_Rs → wS → Prop) (x2 : Int32) (x3 : Int32) (x4 : Int32) (x5 : Int32) (x6 : Int32) (x7 : Int32) (x8 : Int32) (w : wS) : Prop := kzE E L kt_M343 258 [(0, .ref (w_adr E.2.1 12 0)), (2, .int x2), (3, .int x3), (4, .int x4), (5, .int x5), (6, .int x6), (7, .int x7), (8, .int x8)] [] w Q
def zL_X13_actCall_p147 (E : zE) (L : Nat) (Q : kx_Rs → wS → Prop) (x2 : Int32) (x3 : Int32) (x4 : Int32) (x5 : Int32) (x6 : Int32) (w : wS) : Prop := kzE E L kt_M343 147 [(0, .ref (w_adr E.2.1 12 0)), (2, .int x2), (3, .int x3), (4, .int x4), (5, .int x5), (6, .int x6)] [] w Q
def zL_X13_actCall_p50 (E : zE) (L : Nat) (Q : kx_Rs → wS → Prop) (x1 : Int32) (x2 : Int32) (x3 : Int32) (x4 : Int32) (w : wS) : Prop := kzE E L kt_M343 50 [(0, .ref (w_adr E.2.1 12 0)), (1, .int x1), (2, .int x2), (3, .int x3), (4, .int x4)] [] w Q
def zb_X13_actCall_p491 (E : zE) (L : Nat) (Q : kx_Rs → wS → Prop) (x2 : Int32) (x3 : Int32) (x4 : Int32) (x5 : Int32) (x6 : Int32) (w : wS) : Prop := (kx_inb x4 (w_n w 12 0 32) = true ∧ (kx_inb x6 (w_n w 12 0 32) = true ∧ zL_X13_actCall_p147 E L Q x2 x3 (w_a w 12 0 32 (x4).toNatClampNeg) x5 (w_a w 12 0 32 (x6).toNatClampNeg) w))
theorem zt_X13_actCall_p491 {E : zE} {L : Nat} {Q : kx_Rs → wS → Prop} {x2 : Int32} {x3 : Int32} {x4 : Int32} {x5 : Int32} {x6 : Int32} {w : wS} (hL : 28 ≤ L) (h : zb_X13_actCall_p491 E L Q x2 x3 x4 x5 x6 w) : kzE E L kt_M343 491 [(0, .ref (w_adr E.2.1 12 0)), (2, .int x2), (3, .int x3), (4, .int x4), (5, .int x5), (6, .int x6)] [] w Q := by
  unfold zb_X13_actCall_p491 at h
  refine kz_aload_n (M := kt_M343) kX13_actCall_c32.2.2.2.2.2.2.2.1 rfl ?_
  refine kz_gfc (M := kt_M343) (x := 4104) (c := 12) (o := 0) kX13_actCall_c33.1 wf_X13_205 (.inl rfl) ?_
  refine kz_iload (M := kt_M343) kX13_actCall_c33.2.1 rfl ?_
  refine kz_iald (M := kt_M343) (c := 12) (o := 0) (k := 32) (a := (E.2.1 4104)) kX13_actCall_c33.2.2.1 ow_12_0_32 oa_12_0_32 ot_0 h (fun h => ?_)
  refine kz_sti (M := kt_M343) [(0, .ref (w_adr E.2.1 12 0)), (2, .int x2), (3, .int x3), (5, .int x5), (6, .int x6)] kX13_actCall_c33.2.2.2.1 (Nat.le_of_ble_eq_true rfl) ⟨⟨rfl, rfl, .inl rfl⟩, ⟨⟨rfl, rfl, .inl rfl⟩, ⟨⟨rfl, rfl, .inr rfl⟩, ⟨⟨rfl, rfl, .inl rfl⟩, ⟨⟨rfl, rfl, .inl rfl⟩, trivial⟩⟩⟩⟩⟩ rfl ?_
  refine kz_aload_n (M := kt_M343) kX13_actCall_c33.2.2.2.2.1 rfl ?_
  refine kz_gfc (M := kt_M343) (x := 4104) (c := 12) (o := 0) kX13_actCall_c33.2.2.2.2.2.1 wf_X13_205 (.inl rfl) ?_
  refine kz_iload (M := kt_M343) kX13_actCall_c33.2.2.2.2.2.2.1 rfl ?_
  refine kz_iald (M := kt_M343) (c := 12) (o := 0) (k := 32) (a := (E.2.1 4104)) kX13_actCall_c33.2.2.2.2.2.2.2.1 ow_12_0_32 oa_12_0_32 ot_0 h (fun h => ?_)
  refine kz_sti (M := kt_M343) [(0, .ref (w_adr E.2.1 12 0)), (2, .int x2), (3, .int x3), (4, .int (w_a w 12 0 32 (x4).toNatClampNeg)), (5, .int x5)] kX13_actCall_c34.1 (Nat.le_of_ble_eq_true rfl) ⟨⟨rfl, rfl, .inl rfl⟩, ⟨⟨rfl, rfl, .inl rfl⟩, ⟨⟨rfl, rfl, .inl rfl⟩, ⟨⟨rfl, rfl, .inl rfl⟩, ⟨⟨rfl, rfl, .inr rfl⟩, trivial⟩⟩⟩⟩⟩ rfl ?_
  refine kz_goto (M := kt_M343) kX13_actCall_c34.2.1 (t := 147) rfl ?_
  exact kz_weak [(0, .ref (w_adr E.2.1 12 0)), (2, .int x2), (3, .int x3), (4, .int (w_a w 12 0 32 (x4).toNatClampNeg)), (5, .int x5), (6, .int (w_a w 12 0 32 (x6).toNatClampNeg))] ⟨rfl, ⟨rfl, ⟨rfl, ⟨rfl, ⟨rfl, ⟨rfl, trivial⟩⟩⟩⟩⟩⟩ rfl h
def zb_X13_actCall_p485 (E : zE) (L : Nat) (Q : kx_Rs → wS → Prop) (x2 : Int32) (x3 : Int32) (x4 : Int32) (x5 : Int32) (x6 : Int32) (x7 : Int32) (x8 : Int32) (w : wS) : Prop := zL_X13_actCall_p367 E L Q x2 x3 x4 x5 x6 x7 (x8 + 1) w
theorem zt_X13_actCall_p485 {E : zE} {L : Nat} {Q : kx_Rs → wS → Prop} {x2 : Int32} {x3 : Int32} {x4 : Int32} {x5 : Int32} {x6 : Int32} {x7 : Int32} {x8 : Int32} {w : wS} (hL : 28 ≤ L) (h : zb_X13_actCall_p485 E L Q x2 x3 x4 x5 x6 x7 x8 w) : kzE E L kt_M343 485 [(0, .ref (w_adr E.2.1 12 0)), (2, .int x2), (3, .int x3), (4, .int x4), (5, .int x5), (6, .int x6), (7, .int x7), (8, .int x8)] [] w Q := by
  unfold zb_X13_actCall_p485 at h
  refine kz_inc (M := kt_M343) [(0, .ref (w_adr E.2.1 12 0)), (2, .int x2), (3, .int x3), (4, .int x4), (5, .int x5), (6, .int x6), (7, .int x7)] kX13_actCall_c32.2.2.2.2.2.1 rfl (Nat.le_of_ble_eq_true rfl) ⟨⟨rfl, rfl, .inl rfl⟩, ⟨⟨rfl, rfl, .inl rfl⟩, ⟨⟨rfl, rfl, .inl rfl⟩, ⟨⟨rfl, rfl, .inl rfl⟩, ⟨⟨rfl, rfl, .inl rfl⟩, ⟨⟨rfl, rfl, .inl rfl⟩, ⟨⟨rfl, rfl, .inr rfl⟩, trivial⟩⟩⟩⟩⟩⟩⟩ rfl ?_
  refine kz_goto (M := kt_M343) kX13_actCall_c32.2.2.2.2.2.2.1 (t := 367) rfl ?_
  exact kz_weak [(0, .ref (w_adr E.2.1 12 0)), (2, .int x2), (3, .int x3), (4, .int x4), (5, .int x5), (6, .int x6), (7, .int x7), (8, .int (x8 + 1))] ⟨rfl, ⟨rfl, ⟨rfl, ⟨rfl, ⟨rfl, ⟨rfl, ⟨rfl, ⟨rfl, trivial⟩⟩⟩⟩⟩⟩⟩⟩ rfl h
def zb_X13_actCall_p478 (E : zE) (L : Nat) (Q : kx_Rs → wS → Prop) (x2 : Int32) (x3 : Int32) (x4 : Int32) (x5 : Int32) (x6 : Int32) (x7 : Int32) (x8 : Int32) (w : wS) : Prop := zw E (L - 22) kt_M560 [.ref (w_adr E.2.1 12 0), .int 12, .int x3] w (wk0 (fun w1 => wle w w1 → zb_X13_actCall_p485 E L Q x2 x3 x4 x5 x6 x7 x8 w1) (fun e w => Q (.inr e) w))
theorem zt_X13_actCall_p478 {E : zE} {L : Nat} {Q : kx_Rs → wS → Prop} {x2 : Int32} {x3 : Int32} {x4 : Int32} {x5 : Int32} {x6 : Int32} {x7 : Int32} {x8 : Int32} {w : wS} (hL : 28 ≤ L) (h : zb_X13_actCall_p478 E L Q x2 x3 x4 x5 x6 x7 x8 w) : kzE E L kt_M343 478 [(0, .ref (w_adr E.2.1 12 0)), (2, .int x2), (3, .int x3), (4, .int x4), (5, .int x5), (6, .int x6), (7, .int x7), (8, .int x8)] [] w Q := by
  unfold zb_X13_actCall_p478 at h
  refine kz_aload_n (M := kt_M343) kX13_actCall_c32.2.1 rfl ?_
  refine kz_bi (M := kt_M343) 12 kX13_actCall_c32.2.2.1 rfl ?_
  refine kz_iload_n (M := kt_M343) kX13_actCall_c32.2.2.2.1 rfl ?_
  refine kz_cv0 (M := kt_M343) (c := 12) (o := 0) (As := [.int 12, .int x3]) (rest := []) kX13_actCall_c32.2.2.2.2.1 wl_X13_734 wMv_560 rfl (.inl rfl) rfl (Nat.le_trans (Nat.le_of_ble_eq_true rfl) hL) (Nat.le_of_ble_eq_true rfl) (Nat.le_of_ble_eq_true rfl) h (fun w1 hle h => ?_) (fun _ _ _ h => kzx_no rfl h)
  have h := h hle
  exact kz_weak [(0, .ref (w_adr E.2.1 12 0)), (2, .int x2), (3, .int x3), (4, .int x4), (5, .int x5), (6, .int x6), (7, .int x7), (8, .int x8)] ⟨rfl, ⟨rfl, ⟨rfl, ⟨rfl, ⟨rfl, ⟨rfl, ⟨rfl, ⟨rfl, trivial⟩⟩⟩⟩⟩⟩⟩⟩ rfl (zt_X13_actCall_p485 hL  h)
def zb_X13_actCall_p448 (E : zE) (L : Nat) (Q : kx_Rs → wS → Prop) (x2 : Int32) (x3 : Int32) (x4 : Int32) (x5 : Int32) (x6 : Int32) (x7 : Int32) (x8 : Int32) (x9 : Int32) (y0 : Int32) (w : wS) : Prop := (if x9 = 0 then zb_X13_actCall_p485 E L Q x2 x3 x4 x5 x6 x7 x8 w else (if y0 = 0 then zb_X13_actCall_p485 E L Q x2 x3 x4 x5 x6 x7 x8 w else (if ¬ w_i w 12 0 91 = 0 then zb_X13_actCall_p478 E L Q x2 x3 x4 x5 x6 x7 x8 w else zw E (L - 24) kt_M444 [.ref (E.2.1 4164), .int 0] w (wk1 (fun v2 w1 => wle w w1 → (if ¬ v2 = 0 then zb_X13_actCall_p485 E L Q x2 x3 x4 x5 x6 x7 x8 w1 else zb_X13_actCall_p478 E L Q x2 x3 x4 x5 x6 x7 x8 w1)) (fun e w => Q (.inr e) w)))))
theorem zt_X13_actCall_p448 {E : zE} {L : Nat} {Q : kx_Rs → wS → Prop} {x2 : Int32} {x3 : Int32} {x4 : Int32} {x5 : Int32} {x6 : Int32} {x7 : Int32} {x8 : Int32} {x9 : Int32} {y0 : Int32} {w : wS} (hL : 28 ≤ L) (h : zb_X13_actCall_p448 E L Q x2 x3 x4 x5 x6 x7 x8 x9 y0 w) : kzE E L kt_M343 448 [(0, .ref (w_adr E.2.1 12 0)), (2, .int x2), (3, .int x3), (4, .int x4), (5, .int x5), (6, .int x6), (7, .int x7), (8, .int x8), (9, .int x9)] [.int y0] w Q := by
  unfold zb_X13_actCall_p448 at h
  refine kz_sti (M := kt_M343) [(0, .ref (w_adr E.2.1 12 0)), (2, .int x2), (3, .int x3), (4, .int x4), (5, .int x5), (6, .int x6), (7, .int x7), (8, .int x8), (9, .int x9)] kX13_actCall_c30.2.2.2.2.1 (Nat.le_of_ble_eq_true rfl) ⟨⟨rfl, rfl, .inl rfl⟩, ⟨⟨rfl, rfl, .inl rfl⟩, ⟨⟨rfl, rfl, .inl rfl⟩, ⟨⟨rfl, rfl, .inl rfl⟩, ⟨⟨rfl, rfl, .inl rfl⟩, ⟨⟨rfl, rfl, .inl rfl⟩, ⟨⟨rfl, rfl, .inl rfl⟩, ⟨⟨rfl, rfl, .inl rfl⟩, ⟨⟨rfl, rfl, .inr rfl⟩, trivial⟩⟩⟩⟩⟩⟩⟩⟩⟩ rfl ?_
  refine kz_iload (M := kt_M343) kX13_actCall_c30.2.2.2.2.2.1 rfl ?_
  refine kz_if_eq (M := kt_M343) kX13_actCall_c30.2.2.2.2.2.2.1 (t := 485) rfl h (fun h => ?_) (fun h => ?_)
  · skip
    exact kz_weak [(0, .ref (w_adr E.2.1 12 0)), (2, .int x2), (3, .int x3), (4, .int x4), (5, .int x5), (6, .int x6), (7, .int x7), (8, .int x8)] ⟨rfl, ⟨rfl, ⟨rfl, ⟨rfl, ⟨rfl, ⟨rfl, ⟨rfl, ⟨rfl, trivial⟩⟩⟩⟩⟩⟩⟩⟩ rfl (zt_X13_actCall_p485 hL  h)
  · skip
    refine kz_iload (M := kt_M343) kX13_actCall_c30.2.2.2.2.2.2.2.1 rfl ?_
    refine kz_if_eq (M := kt_M343) kX13_actCall_c31.1 (t := 485) rfl h (fun h => ?_) (fun h => ?_)
    · skip
      exact kz_weak [(0, .ref (w_adr E.2.1 12 0)), (2, .int x2), (3, .int x3), (4, .int x4), (5, .int x5), (6, .int x6), (7, .int x7), (8, .int x8)] ⟨rfl, ⟨rfl, ⟨rfl, ⟨rfl, ⟨rfl, ⟨rfl, ⟨rfl, ⟨rfl, trivial⟩⟩⟩⟩⟩⟩⟩⟩ rfl (zt_X13_actCall_p485 hL  h)
    · skip
      refine kz_aload_n (M := kt_M343) kX13_actCall_c31.2.1 rfl ?_
      refine kz_gfi (M := kt_M343) (c := 12) (o := 0) kX13_actCall_c31.2.2.1 wf_X13_988 (.inl rfl) ?_
      refine kz_if_ne (M := kt_M343) kX13_actCall_c31.2.2.2.1 (t := 478) rfl h (fun h => ?_) (fun h => ?_)
      · skip
        exact kz_weak [(0, .ref (w_adr E.2.1 12 0)), (2, .int x2), (3, .int x3), (4, .int x4), (5, .int x5), (6, .int x6), (7, .int x7), (8, .int x8)] ⟨rfl, ⟨rfl, ⟨rfl, ⟨rfl, ⟨rfl, ⟨rfl, ⟨rfl, ⟨rfl, trivial⟩⟩⟩⟩⟩⟩⟩⟩ rfl (zt_X13_actCall_p478 hL  h)
      · skip
        refine kz_aload_n (M := kt_M343) kX13_actCall_c31.2.2.2.2.1 rfl ?_
        refine kz_gfc (M := kt_M343) (x := 4164) (c := 12) (o := 0) kX13_actCall_c31.2.2.2.2.2.1 wf_X13_310 (.inl rfl) ?_
        refine kz_ic (M := kt_M343) 0 kX13_actCall_c31.2.2.2.2.2.2.1 rfl ?_
        refine kz_cs1 (M := kt_M343) (As := [.ref (E.2.1 4164), .int 0]) (rest := []) kX13_actCall_c31.2.2.2.2.2.2.2.1 wl_X13_1086 wMs_444 rfl (Nat.le_trans (Nat.le_of_ble_eq_true rfl) hL) (Nat.le_of_ble_eq_true rfl) (Nat.le_of_ble_eq_true rfl) h (fun v2 w1 hle h => ?_) (fun _ _ _ h => kzx_no rfl h)
        have h := h hle
        refine kz_if_ne (M := kt_M343) kX13_actCall_c32.1 (t := 485) rfl h (fun h => ?_) (fun h => ?_)
        · skip
          exact kz_weak [(0, .ref (w_adr E.2.1 12 0)), (2, .int x2), (3, .int x3), (4, .int x4), (5, .int x5), (6, .int x6), (7, .int x7), (8, .int x8)] ⟨rfl, ⟨rfl, ⟨rfl, ⟨rfl, ⟨rfl, ⟨rfl, ⟨rfl, ⟨rfl, trivial⟩⟩⟩⟩⟩⟩⟩⟩ rfl (zt_X13_actCall_p485 hL  h)
        · skip
          exact kz_weak [(0, .ref (w_adr E.2.1 12 0)), (2, .int x2), (3, .int x3), (4, .int x4), (5, .int x5), (6, .int x6), (7, .int x7), (8, .int x8)] ⟨rfl, ⟨rfl, ⟨rfl, ⟨rfl, ⟨rfl, ⟨rfl, ⟨rfl, ⟨rfl, trivial⟩⟩⟩⟩⟩⟩⟩⟩ rfl (zt_X13_actCall_p478 hL  h)
def zb_X13_actCall_p443 (E : zE) (L : Nat) (Q : kx_Rs → wS → Prop) (x2 : Int32) (x3 : Int32) (x4 : Int32) (x5 : Int32) (x6 : Int32) (x7 : Int32) (x8 : Int32) (x9 : Int32) (w : wS) : Prop := zb_X13_actCall_p448 E L Q x2 x3 x4 x5 x6 x7 x8 x9 1 w
theorem zt_X13_actCall_p443 {E : zE} {L : Nat} {Q : kx_Rs → wS → Prop} {x2 : Int32} {x3 : Int32} {x4 : Int32} {x5 : Int32} {x6 : Int32} {x7 : Int32} {x8 : Int32} {x9 : Int32} {w : wS} (hL : 28 ≤ L) (h : zb_X13_actCall_p443 E L Q x2 x3 x4 x5 x6 x7 x8 x9 w) : kzE E L kt_M343 443 [(0, .ref (w_adr E.2.1 12 0)), (2, .int x2), (3, .int x3), (4, .int x4), (5, .int x5), (6, .int x6), (7, .int x7), (8, .int x8), (9, .int x9)] [] w Q := by
  unfold zb_X13_actCall_p443 at h
  refine kz_ic (M := kt_M343) 1 kX13_actCall_c30.2.1 rfl ?_
  refine kz_goto (M := kt_M343) kX13_actCall_c30.2.2.1 (t := 448) rfl ?_
  exact kz_weak [(0, .ref (w_adr E.2.1 12 0)), (2, .int x2), (3, .int x3), (4, .int x4), (5, .int x5), (6, .int x6), (7, .int x7), (8, .int x8), (9, .int x9)] ⟨rfl, ⟨rfl, ⟨rfl, ⟨rfl, ⟨rfl, ⟨rfl, ⟨rfl, ⟨rfl, ⟨rfl, trivial⟩⟩⟩⟩⟩⟩⟩⟩⟩ rfl (zt_X13_actCall_p448 hL  h)
def zb_X13_actCall_p413 (E : zE) (L : Nat) (Q : kx_Rs → wS → Prop) (x2 : Int32) (x3 : Int32) (x4 : Int32) (x5 : Int32) (x6 : Int32) (x7 : Int32) (x8 : Int32) (y0 : Int32) (w : wS) : Prop := (kx_inb x8 (w_n w 12 0 82) = true ∧ (if ¬ ((x7 ||| (w_a w 12 0 82 (x8).toNatClampNeg)) &&& 2) = 0 then zb_X13_actCall_p443 E L Q x2 x3 x4 x5 x6 x7 x8 y0 w else (kx_inb (w_i w 12 0 89) (w_n w 12 0 46) = true ∧ (if ¬ w_a w 12 0 46 (w_i w 12 0 89).toNatClampNeg = 3 then zb_X13_actCall_p448 E L Q x2 x3 x4 x5 x6 x7 x8 y0 0 w else zb_X13_actCall_p443 E L Q x2 x3 x4 x5 x6 x7 x8 y0 w))))
theorem zt_X13_actCall_p413 {E : zE} {L : Nat} {Q : kx_Rs → wS → Prop} {x2 : Int32} {x3 : Int32} {x4 : Int32} {x5 : Int32} {x6 : Int32} {x7 : Int32} {x8 : Int32} {y0 : Int32} {w : wS} (hL : 28 ≤ L) (h : zb_X13_actCall_p413 E L Q x2 x3 x4 x5 x6 x7 x8 y0 w) : kzE E L kt_M343 413 [(0, .ref (w_adr E.2.1 12 0)), (2, .int x2), (3, .int x3), (4, .int x4), (5, .int x5), (6, .int x6), (7, .int x7), (8, .int x8)] [.int y0] w Q := by
  unfold zb_X13_actCall_p413 at h
  refine kz_sti (M := kt_M343) [(0, .ref (w_adr E.2.1 12 0)), (2, .int x2), (3, .int x3), (4, .int x4), (5, .int x5), (6, .int x6), (7, .int x7), (8, .int x8)] kX13_actCall_c28.1 (Nat.le_of_ble_eq_true rfl) ⟨⟨rfl, rfl, .inl rfl⟩, ⟨⟨rfl, rfl, .inl rfl⟩, ⟨⟨rfl, rfl, .inl rfl⟩, ⟨⟨rfl, rfl, .inl rfl⟩, ⟨⟨rfl, rfl, .inl rfl⟩, ⟨⟨rfl, rfl, .inl rfl⟩, ⟨⟨rfl, rfl, .inl rfl⟩, ⟨⟨rfl, rfl, .inr rfl⟩, trivial⟩⟩⟩⟩⟩⟩⟩⟩ rfl ?_
  refine kz_iload (M := kt_M343) kX13_actCall_c28.2.1 rfl ?_
  refine kz_aload_n (M := kt_M343) kX13_actCall_c28.2.2.1 rfl ?_
  refine kz_gfa (M := kt_M343) (c := 12) (o := 0) kX13_actCall_c28.2.2.2.1 wf_X13_298 (.inl rfl) ?_
  refine kz_iload (M := kt_M343) kX13_actCall_c28.2.2.2.2.1 rfl ?_
  refine kz_iald (M := kt_M343) (c := 12) (o := 0) (k := 82) (a := (w_d w 12 0 82)) kX13_actCall_c28.2.2.2.2.2.1 ow_12_0_82 oa_12_0_82 ot_0 h (fun h => ?_)
  refine kz_ior (M := kt_M343) kX13_actCall_c28.2.2.2.2.2.2.1 ?_
  refine kz_ic (M := kt_M343) 2 kX13_actCall_c28.2.2.2.2.2.2.2.1 rfl ?_
  refine kz_iand (M := kt_M343) kX13_actCall_c29.1 ?_
  refine kz_if_ne (M := kt_M343) kX13_actCall_c29.2.1 (t := 443) rfl h (fun h => ?_) (fun h => ?_)
  · skip
    exact kz_weak [(0, .ref (w_adr E.2.1 12 0)), (2, .int x2), (3, .int x3), (4, .int x4), (5, .int x5), (6, .int x6), (7, .int x7), (8, .int x8), (9, .int y0)] ⟨rfl, ⟨rfl, ⟨rfl, ⟨rfl, ⟨rfl, ⟨rfl, ⟨rfl, ⟨rfl, ⟨rfl, trivial⟩⟩⟩⟩⟩⟩⟩⟩⟩ rfl (zt_X13_actCall_p443 hL  h)
  · skip
    refine kz_aload_n (M := kt_M343) kX13_actCall_c29.2.2.1 rfl ?_
    refine kz_gfc (M := kt_M343) (x := 4118) (c := 12) (o := 0) kX13_actCall_c29.2.2.2.1 wf_X13_223 (.inl rfl) ?_
    refine kz_aload_n (M := kt_M343) kX13_actCall_c29.2.2.2.2.1 rfl ?_
    refine kz_gfi (M := kt_M343) (c := 12) (o := 0) kX13_actCall_c29.2.2.2.2.2.1 wf_X13_974 (.inl rfl) ?_
    refine kz_iald (M := kt_M343) (c := 12) (o := 0) (k := 46) (a := (E.2.1 4118)) kX13_actCall_c29.2.2.2.2.2.2.1 ow_12_0_46 oa_12_0_46 ot_0 h (fun h => ?_)
    refine kz_ic (M := kt_M343) 3 kX13_actCall_c29.2.2.2.2.2.2.2.1 rfl ?_
    refine kz_icmp_ne (M := kt_M343) kX13_actCall_c30.1 (t := 447) rfl h (fun h => ?_) (fun h => ?_)
    · skip
      refine kz_ic (M := kt_M343) 0 kX13_actCall_c30.2.2.2.1 rfl ?_
      exact kz_weak [(0, .ref (w_adr E.2.1 12 0)), (2, .int x2), (3, .int x3), (4, .int x4), (5, .int x5), (6, .int x6), (7, .int x7), (8, .int x8), (9, .int y0)] ⟨rfl, ⟨rfl, ⟨rfl, ⟨rfl, ⟨rfl, ⟨rfl, ⟨rfl, ⟨rfl, ⟨rfl, trivial⟩⟩⟩⟩⟩⟩⟩⟩⟩ rfl (zt_X13_actCall_p448 hL  h)
    · skip
      exact kz_weak [(0, .ref (w_adr E.2.1 12 0)), (2, .int x2), (3, .int x3), (4, .int x4), (5, .int x5), (6, .int x6), (7, .int x7), (8, .int x8), (9, .int y0)] ⟨rfl, ⟨rfl, ⟨rfl, ⟨rfl, ⟨rfl, ⟨rfl, ⟨rfl, ⟨rfl, ⟨rfl, trivial⟩⟩⟩⟩⟩⟩⟩⟩⟩ rfl (zt_X13_actCall_p443 hL  h)
def zb_X13_actCall_p412 (E : zE) (L : Nat) (Q : kx_Rs → wS → Prop) (x2 : Int32) (x3 : Int32) (x4 : Int32) (x5 : Int32) (x6 : Int32) (x7 : Int32) (x8 : Int32) (w : wS) : Prop := zb_X13_actCall_p413 E L Q x2 x3 x4 x5 x6 x7 x8 0 w
theorem zt_X13_actCall_p412 {E : zE} {L : Nat} {Q : kx_Rs → wS → Prop} {x2 : Int32} {x3 : Int32} {x4 : Int32} {x5 : Int32} {x6 : Int32} {x7 : Int32} {x8 : Int32} {w : wS} (hL : 28 ≤ L) (h : zb_X13_actCall_p412 E L Q x2 x3 x4 x5 x6 x7 x8 w) : kzE E L kt_M343 412 [(0, .ref (w_adr E.2.1 12 0)), (2, .int x2), (3, .int x3), (4, .int x4), (5, .int x5), (6, .int x6), (7, .int x7), (8, .int x8)] [] w Q := by
  unfold zb_X13_actCall_p412 at h
  refine kz_ic (M := kt_M343) 0 kX13_actCall_c27.2.2.2.2.2.2.2.1 rfl ?_
  exact kz_weak [(0, .ref (w_adr E.2.1 12 0)), (2, .int x2), (3, .int x3), (4, .int x4), (5, .int x5), (6, .int x6), (7, .int x7), (8, .int x8)] ⟨rfl, ⟨rfl, ⟨rfl, ⟨rfl, ⟨rfl, ⟨rfl, ⟨rfl, ⟨rfl, trivial⟩⟩⟩⟩⟩⟩⟩⟩ rfl (zt_X13_actCall_p413 hL  h)
def zb_X13_actCall_p367 (E : zE) (L : Nat) (Q : kx_Rs → wS → Prop) (x2 : Int32) (x3 : Int32) (x4 : Int32) (x5 : Int32) (x6 : Int32) (x7 : Int32) (x8 : Int32) (w : wS) : Prop := (kx_inb x2 (w_n w 12 0 84) = true ∧ (if w_a w 12 0 84 (x2).toNatClampNeg ≤ x8 then zb_X13_actCall_p491 E L Q x2 x3 x4 x5 x6 w else (kx_inb x8 (w_n w 12 0 81) = true ∧ (if ¬ w_a w 12 0 81 (x8).toNatClampNeg = w_i w 12 0 89 then zb_X13_actCall_p412 E L Q x2 x3 x4 x5 x6 x7 x8 w else (kx_inb x8 (w_n w 12 0 81) = true ∧ (kx_inb x2 (w_n w 12 0 67) = true ∧ (if w_a w 12 0 67 (x2).toNatClampNeg ≤ w_a w 12 0 81 (x8).toNatClampNeg then zb_X13_actCall_p412 E L Q x2 x3 x4 x5 x6 x7 x8 w else zb_X13_actCall_p413 E L Q x2 x3 x4 x5 x6 x7 x8 1 w)))))))
theorem zt_X13_actCall_p367 {E : zE} {L : Nat} {Q : kx_Rs → wS → Prop} {x2 : Int32} {x3 : Int32} {x4 : Int32} {x5 : Int32} {x6 : Int32} {x7 : Int32} {x8 : Int32} {w : wS} (hL : 28 ≤ L) (h : zb_X13_actCall_p367 E L Q x2 x3 x4 x5 x6 x7 x8 w) : kzE E L kt_M343 367 [(0, .ref (w_adr E.2.1 12 0)), (2, .int x2), (3, .int x3), (4, .int x4), (5, .int x5), (6, .int x6), (7, .int x7), (8, .int x8)] [] w Q := by
  unfold zb_X13_actCall_p367 at h
  refine kz_iload (M := kt_M343) kX13_actCall_c24.2.2.2.2.2.2.2.1 rfl ?_
  refine kz_aload_n (M := kt_M343) kX13_actCall_c25.1 rfl ?_
  refine kz_gfc (M := kt_M343) (x := 4156) (c := 12) (o := 0) kX13_actCall_c25.2.1 wf_X13_304 (.inl rfl) ?_
  refine kz_iload_n (M := kt_M343) kX13_actCall_c25.2.2.1 rfl ?_
  refine kz_iald (M := kt_M343) (c := 12) (o := 0) (k := 84) (a := (E.2.1 4156)) kX13_actCall_c25.2.2.2.1 ow_12_0_84 oa_12_0_84 ot_0 h (fun h => ?_)
  refine kz_icmp_ge (M := kt_M343) kX13_actCall_c25.2.2.2.2.1 (t := 491) rfl h (fun h => ?_) (fun h => ?_)
  · skip
    exact kz_weak [(0, .ref (w_adr E.2.1 12 0)), (2, .int x2), (3, .int x3), (4, .int x4), (5, .int x5), (6, .int x6)] ⟨rfl, ⟨rfl, ⟨rfl, ⟨rfl, ⟨rfl, ⟨rfl, trivial⟩⟩⟩⟩⟩⟩ rfl (zt_X13_actCall_p491 hL  h)
  · skip
    refine kz_aload_n (M := kt_M343) kX13_actCall_c25.2.2.2.2.2.1 rfl ?_
    refine kz_gfa (M := kt_M343) (c := 12) (o := 0) kX13_actCall_c25.2.2.2.2.2.2.1 wf_X13_295 (.inl rfl) ?_
    refine kz_iload (M := kt_M343) kX13_actCall_c25.2.2.2.2.2.2.2.1 rfl ?_
    refine kz_iald (M := kt_M343) (c := 12) (o := 0) (k := 81) (a := (w_d w 12 0 81)) kX13_actCall_c26.1 ow_12_0_81 oa_12_0_81 ot_0 h (fun h => ?_)
    refine kz_aload_n (M := kt_M343) kX13_actCall_c26.2.1 rfl ?_
    refine kz_gfi (M := kt_M343) (c := 12) (o := 0) kX13_actCall_c26.2.2.1 wf_X13_974 (.inl rfl) ?_
    refine kz_icmp_ne (M := kt_M343) kX13_actCall_c26.2.2.2.1 (t := 412) rfl h (fun h => ?_) (fun h => ?_)
    · skip
      exact kz_weak [(0, .ref (w_adr E.2.1 12 0)), (2, .int x2), (3, .int x3), (4, .int x4), (5, .int x5), (6, .int x6), (7, .int x7), (8, .int x8)] ⟨rfl, ⟨rfl, ⟨rfl, ⟨rfl, ⟨rfl, ⟨rfl, ⟨rfl, ⟨rfl, trivial⟩⟩⟩⟩⟩⟩⟩⟩ rfl (zt_X13_actCall_p412 hL  h)
    · skip
      refine kz_aload_n (M := kt_M343) kX13_actCall_c26.2.2.2.2.1 rfl ?_
      refine kz_gfa (M := kt_M343) (c := 12) (o := 0) kX13_actCall_c26.2.2.2.2.2.1 wf_X13_295 (.inl rfl) ?_
      refine kz_iload (M := kt_M343) kX13_actCall_c26.2.2.2.2.2.2.1 rfl ?_
      refine kz_iald (M := kt_M343) (c := 12) (o := 0) (k := 81) (a := (w_d w 12 0 81)) kX13_actCall_c26.2.2.2.2.2.2.2.1 ow_12_0_81 oa_12_0_81 ot_0 h (fun h => ?_)
      refine kz_aload_n (M := kt_M343) kX13_actCall_c27.1 rfl ?_
      refine kz_gfc (M := kt_M343) (x := 4139) (c := 12) (o := 0) kX13_actCall_c27.2.1 wf_X13_269 (.inl rfl) ?_
      refine kz_iload_n (M := kt_M343) kX13_actCall_c27.2.2.1 rfl ?_
      refine kz_iald (M := kt_M343) (c := 12) (o := 0) (k := 67) (a := (E.2.1 4139)) kX13_actCall_c27.2.2.2.1 ow_12_0_67 oa_12_0_67 ot_0 h (fun h => ?_)
      refine kz_icmp_ge (M := kt_M343) kX13_actCall_c27.2.2.2.2.1 (t := 412) rfl h (fun h => ?_) (fun h => ?_)
      · skip
        exact kz_weak [(0, .ref (w_adr E.2.1 12 0)), (2, .int x2), (3, .int x3), (4, .int x4), (5, .int x5), (6, .int x6), (7, .int x7), (8, .int x8)] ⟨rfl, ⟨rfl, ⟨rfl, ⟨rfl, ⟨rfl, ⟨rfl, ⟨rfl, ⟨rfl, trivial⟩⟩⟩⟩⟩⟩⟩⟩ rfl (zt_X13_actCall_p412 hL  h)
      · skip
        refine kz_ic (M := kt_M343) 1 kX13_actCall_c27.2.2.2.2.2.1 rfl ?_
        refine kz_goto (M := kt_M343) kX13_actCall_c27.2.2.2.2.2.2.1 (t := 413) rfl ?_
        exact kz_weak [(0, .ref (w_adr E.2.1 12 0)), (2, .int x2), (3, .int x3), (4, .int x4), (5, .int x5), (6, .int x6), (7, .int x7), (8, .int x8)] ⟨rfl, ⟨rfl, ⟨rfl, ⟨rfl, ⟨rfl, ⟨rfl, ⟨rfl, ⟨rfl, trivial⟩⟩⟩⟩⟩⟩⟩⟩ rfl (zt_X13_actCall_p413 hL  h)
def zb_X13_actCall_p350 (E : zE) (L : Nat) (Q : kx_Rs → wS → Prop) (x2 : Int32) (x3 : Int32) (x4 : Int32) (x5 : Int32) (x6 : Int32) (x7 : Int32) (x8 : Int32) (w : wS) : Prop := zL_X13_actCall_p292 E L Q x2 x3 x4 x5 x6 x7 (x8 + 1) w
theorem zt_X13_actCall_p350 {E : zE} {L : Nat} {Q : kx_Rs → wS → Prop} {x2 : Int32} {x3 : Int32} {x4 : Int32} {x5 : Int32} {x6 : Int32} {x7 : Int32} {x8 : Int32} {w : wS} (hL : 28 ≤ L) (h : zb_X13_actCall_p350 E L Q x2 x3 x4 x5 x6 x7 x8 w) : kzE E L kt_M343 350 [(0, .ref (w_adr E.2.1 12 0)), (2, .int x2), (3, .int x3), (4, .int x4), (5, .int x5), (6, .int x6), (7, .int x7), (8, .int x8)] [] w Q := by
  unfold zb_X13_actCall_p350 at h
  refine kz_inc (M := kt_M343) [(0, .ref (w_adr E.2.1 12 0)), (2, .int x2), (3, .int x3), (4, .int x4), (5, .int x5), (6, .int x6), (7, .int x7)] kX13_actCall_c23.2.2.2.2.2.2.2.1 rfl (Nat.le_of_ble_eq_true rfl) ⟨⟨rfl, rfl, .inl rfl⟩, ⟨⟨rfl, rfl, .inl rfl⟩, ⟨⟨rfl, rfl, .inl rfl⟩, ⟨⟨rfl, rfl, .inl rfl⟩, ⟨⟨rfl, rfl, .inl rfl⟩, ⟨⟨rfl, rfl, .inl rfl⟩, ⟨⟨rfl, rfl, .inr rfl⟩, trivial⟩⟩⟩⟩⟩⟩⟩ rfl ?_
  refine kz_goto (M := kt_M343) kX13_actCall_c24.1 (t := 292) rfl ?_
  exact kz_weak [(0, .ref (w_adr E.2.1 12 0)), (2, .int x2), (3, .int x3), (4, .int x4), (5, .int x5), (6, .int x6), (7, .int x7), (8, .int (x8 + 1))] ⟨rfl, ⟨rfl, ⟨rfl, ⟨rfl, ⟨rfl, ⟨rfl, ⟨rfl, ⟨rfl, trivial⟩⟩⟩⟩⟩⟩⟩⟩ rfl h
def zb_X13_actCall_p292 (E : zE) (L : Nat) (Q : kx_Rs → wS → Prop) (x2 : Int32) (x3 : Int32) (x4 : Int32) (x5 : Int32) (x6 : Int32) (x7 : Int32) (x8 : Int32) (w : wS) : Prop := (if x5 ≤ x8 then (kx_inb x2 (w_n w 12 0 83) = true ∧ zL_X13_actCall_p367 E L Q x2 x3 x4 (x5 + 1) x6 x7 (w_a w 12 0 83 (x2).toNatClampNeg) w) else (kx_inb x8 (w_n w 12 0 101) = true ∧ (if ¬ w_a w 12 0 101 (x8).toNatClampNeg = w_i w 12 0 89 then zb_X13_actCall_p350 E L Q x2 x3 x4 x5 x6 x7 x8 w else (kx_inb x8 (w_n w 12 0 102) = true ∧ zw E (L - 28) kt_M470 [.int (w_i w 12 0 91), .ref (E.2.1 4164), .int 0, .int (w_a w 12 0 102 (x8).toNatClampNeg), .ref (E.2.1 4175), .int (x8 * 4)] w (wk1 (fun v2 w1 => wle w w1 → (if v2 = 0 then zb_X13_actCall_p350 E L Q x2 x3 x4 x5 x6 x7 x8 w1 else zw E (L - 22) kt_M560 [.ref (w_adr E.2.1 12 0), .int 12, .int x3] w1 (wk0 (fun w3 => wle w1 w3 → zb_X13_actCall_p350 E L Q x2 x3 x4 x5 x6 x7 x8 w3) (fun e w => Q (.inr e) w)))) (fun e w => Q (.inr e) w))))))
theorem zt_X13_actCall_p292 {E : zE} {L : Nat} {Q : kx_Rs → wS → Prop} {x2 : Int32} {x3 : Int32} {x4 : Int32} {x5 : Int32} {x6 : Int32} {x7 : Int32} {x8 : Int32} {w : wS} (hL : 28 ≤ L) (h : zb_X13_actCall_p292 E L Q x2 x3 x4 x5 x6 x7 x8 w) : kzE E L kt_M343 292 [(0, .ref (w_adr E.2.1 12 0)), (2, .int x2), (3, .int x3), (4, .int x4), (5, .int x5), (6, .int x6), (7, .int x7), (8, .int x8)] [] w Q := by
  unfold zb_X13_actCall_p292 at h
  refine kz_iload (M := kt_M343) kX13_actCall_c20.2.1 rfl ?_
  refine kz_iload (M := kt_M343) kX13_actCall_c20.2.2.1 rfl ?_
  refine kz_icmp_ge (M := kt_M343) kX13_actCall_c20.2.2.2.1 (t := 356) rfl h (fun h => ?_) (fun h => ?_)
  · skip
    refine kz_inc (M := kt_M343) [(0, .ref (w_adr E.2.1 12 0)), (2, .int x2), (3, .int x3), (4, .int x4), (6, .int x6), (7, .int x7)] kX13_actCall_c24.2.1 rfl (Nat.le_of_ble_eq_true rfl) ⟨⟨rfl, rfl, .inl rfl⟩, ⟨⟨rfl, rfl, .inl rfl⟩, ⟨⟨rfl, rfl, .inl rfl⟩, ⟨⟨rfl, rfl, .inr rfl⟩, ⟨⟨rfl, rfl, .inl rfl⟩, ⟨⟨rfl, rfl, .inl rfl⟩, trivial⟩⟩⟩⟩⟩⟩ rfl ?_
    refine kz_aload_n (M := kt_M343) kX13_actCall_c24.2.2.1 rfl ?_
    refine kz_gfc (M := kt_M343) (x := 4155) (c := 12) (o := 0) kX13_actCall_c24.2.2.2.1 wf_X13_301 (.inl rfl) ?_
    refine kz_iload_n (M := kt_M343) kX13_actCall_c24.2.2.2.2.1 rfl ?_
    refine kz_iald (M := kt_M343) (c := 12) (o := 0) (k := 83) (a := (E.2.1 4155)) kX13_actCall_c24.2.2.2.2.2.1 ow_12_0_83 oa_12_0_83 ot_0 h (fun h => ?_)
    refine kz_sti (M := kt_M343) [(0, .ref (w_adr E.2.1 12 0)), (2, .int x2), (3, .int x3), (4, .int x4), (5, .int (x5 + 1)), (6, .int x6), (7, .int x7)] kX13_actCall_c24.2.2.2.2.2.2.1 (Nat.le_of_ble_eq_true rfl) ⟨⟨rfl, rfl, .inl rfl⟩, ⟨⟨rfl, rfl, .inl rfl⟩, ⟨⟨rfl, rfl, .inl rfl⟩, ⟨⟨rfl, rfl, .inl rfl⟩, ⟨⟨rfl, rfl, .inl rfl⟩, ⟨⟨rfl, rfl, .inl rfl⟩, ⟨⟨rfl, rfl, .inr rfl⟩, trivial⟩⟩⟩⟩⟩⟩⟩ rfl ?_
    exact kz_weak [(0, .ref (w_adr E.2.1 12 0)), (2, .int x2), (3, .int x3), (4, .int x4), (5, .int (x5 + 1)), (6, .int x6), (7, .int x7), (8, .int (w_a w 12 0 83 (x2).toNatClampNeg))] ⟨rfl, ⟨rfl, ⟨rfl, ⟨rfl, ⟨rfl, ⟨rfl, ⟨rfl, ⟨rfl, trivial⟩⟩⟩⟩⟩⟩⟩⟩ rfl h
  · skip
    refine kz_aload_n (M := kt_M343) kX13_actCall_c20.2.2.2.2.1 rfl ?_
    refine kz_gfc (M := kt_M343) (x := 4173) (c := 12) (o := 0) kX13_actCall_c20.2.2.2.2.2.1 wf_X13_325 (.inl rfl) ?_
    refine kz_iload (M := kt_M343) kX13_actCall_c20.2.2.2.2.2.2.1 rfl ?_
    refine kz_iald (M := kt_M343) (c := 12) (o := 0) (k := 101) (a := (E.2.1 4173)) kX13_actCall_c20.2.2.2.2.2.2.2.1 ow_12_0_101 oa_12_0_101 ot_0 h (fun h => ?_)
    refine kz_aload_n (M := kt_M343) kX13_actCall_c21.1 rfl ?_
    refine kz_gfi (M := kt_M343) (c := 12) (o := 0) kX13_actCall_c21.2.1 wf_X13_974 (.inl rfl) ?_
    refine kz_icmp_ne (M := kt_M343) kX13_actCall_c21.2.2.1 (t := 350) rfl h (fun h => ?_) (fun h => ?_)
    · skip
      exact kz_weak [(0, .ref (w_adr E.2.1 12 0)), (2, .int x2), (3, .int x3), (4, .int x4), (5, .int x5), (6, .int x6), (7, .int x7), (8, .int x8)] ⟨rfl, ⟨rfl, ⟨rfl, ⟨rfl, ⟨rfl, ⟨rfl, ⟨rfl, ⟨rfl, trivial⟩⟩⟩⟩⟩⟩⟩⟩ rfl (zt_X13_actCall_p350 hL  h)
    · skip
      refine kz_aload_n (M := kt_M343) kX13_actCall_c21.2.2.2.1 rfl ?_
      refine kz_gfi (M := kt_M343) (c := 12) (o := 0) kX13_actCall_c21.2.2.2.2.1 wf_X13_988 (.inl rfl) ?_
      refine kz_aload_n (M := kt_M343) kX13_actCall_c21.2.2.2.2.2.1 rfl ?_
      refine kz_gfc (M := kt_M343) (x := 4164) (c := 12) (o := 0) kX13_actCall_c21.2.2.2.2.2.2.1 wf_X13_310 (.inl rfl) ?_
      refine kz_ic (M := kt_M343) 0 kX13_actCall_c21.2.2.2.2.2.2.2.1 rfl ?_
      refine kz_aload_n (M := kt_M343) kX13_actCall_c22.1 rfl ?_
      refine kz_gfc (M := kt_M343) (x := 4174) (c := 12) (o := 0) kX13_actCall_c22.2.1 wf_X13_328 (.inl rfl) ?_
      refine kz_iload (M := kt_M343) kX13_actCall_c22.2.2.1 rfl ?_
      refine kz_zald (M := kt_M343) (c := 12) (o := 0) (k := 102) (a := (E.2.1 4174)) kX13_actCall_c22.2.2.2.1 ow_12_0_102 oa_12_0_102 ot_2 h (fun h => ?_)
      refine kz_aload_n (M := kt_M343) kX13_actCall_c22.2.2.2.2.1 rfl ?_
      refine kz_gfc (M := kt_M343) (x := 4175) (c := 12) (o := 0) kX13_actCall_c22.2.2.2.2.2.1 wf_X13_331 (.inl rfl) ?_
      refine kz_iload (M := kt_M343) kX13_actCall_c22.2.2.2.2.2.2.1 rfl ?_
      refine kz_ic (M := kt_M343) 4 kX13_actCall_c22.2.2.2.2.2.2.2.1 rfl ?_
      refine kz_imul (M := kt_M343) kX13_actCall_c23.1 ?_
      refine kz_cs1 (M := kt_M343) (As := [.int (w_i w 12 0 91), .ref (E.2.1 4164), .int 0, .int (w_a w 12 0 102 (x8).toNatClampNeg), .ref (E.2.1 4175), .int (x8 * 4)]) (rest := []) kX13_actCall_c23.2.1 wl_X13_1082 wMs_470 rfl (Nat.le_trans (Nat.le_of_ble_eq_true rfl) hL) (Nat.le_of_ble_eq_true rfl) (Nat.le_of_ble_eq_true rfl) h (fun v2 w1 hle h => ?_) (fun _ _ _ h => kzx_no rfl h)
      have h := h hle
      refine kz_if_eq (M := kt_M343) kX13_actCall_c23.2.2.1 (t := 350) rfl h (fun h => ?_) (fun h => ?_)
      · skip
        exact kz_weak [(0, .ref (w_adr E.2.1 12 0)), (2, .int x2), (3, .int x3), (4, .int x4), (5, .int x5), (6, .int x6), (7, .int x7), (8, .int x8)] ⟨rfl, ⟨rfl, ⟨rfl, ⟨rfl, ⟨rfl, ⟨rfl, ⟨rfl, ⟨rfl, trivial⟩⟩⟩⟩⟩⟩⟩⟩ rfl (zt_X13_actCall_p350 hL  h)
      · skip
        refine kz_aload_n (M := kt_M343) kX13_actCall_c23.2.2.2.1 rfl ?_
        refine kz_bi (M := kt_M343) 12 kX13_actCall_c23.2.2.2.2.1 rfl ?_
        refine kz_iload_n (M := kt_M343) kX13_actCall_c23.2.2.2.2.2.1 rfl ?_
        refine kz_cv0 (M := kt_M343) (c := 12) (o := 0) (As := [.int 12, .int x3]) (rest := []) kX13_actCall_c23.2.2.2.2.2.2.1 wl_X13_734 wMv_560 rfl (.inl rfl) rfl (Nat.le_trans (Nat.le_of_ble_eq_true rfl) hL) (Nat.le_of_ble_eq_true rfl) (Nat.le_of_ble_eq_true rfl) h (fun w3 hle h => ?_) (fun _ _ _ h => kzx_no rfl h)
        have h := h hle
        exact kz_weak [(0, .ref (w_adr E.2.1 12 0)), (2, .int x2), (3, .int x3), (4, .int x4), (5, .int x5), (6, .int x6), (7, .int x7), (8, .int x8)] ⟨rfl, ⟨rfl, ⟨rfl, ⟨rfl, ⟨rfl, ⟨rfl, ⟨rfl, ⟨rfl, trivial⟩⟩⟩⟩⟩⟩⟩⟩ rfl (zt_X13_actCall_p350 hL  h)
def zb_X13_actCall_p258 (E : zE) (L : Nat) (Q : kx_Rs → wS → Prop) (x2 : Int32) (x3 : Int32) (x4 : Int32) (x5 : Int32) (x6 : Int32) (x7 : Int32) (x8 : Int32) (w : wS) : Prop := (if 4 ≤ x8 then zL_X13_actCall_p292 E L Q x2 x3 x4 x5 x6 x7 0 w else (kx_inb x8 (w_n w 12 0 92) = true ∧ (kx_inb ((x5 * 4) + x8) (w_n w 12 0 103) = true ∧ zL_X13_actCall_p258 E L Q x2 x3 x4 x5 x6 x7 (x8 + 1) (ws_b w 12 0 103 (((x5 * 4) + x8)).toNatClampNeg (w_b w 12 0 92 (x8).toNatClampNeg)))))
theorem zt_X13_actCall_p258 {E : zE} {L : Nat} {Q : kx_Rs → wS → Prop} {x2 : Int32} {x3 : Int32} {x4 : Int32} {x5 : Int32} {x6 : Int32} {x7 : Int32} {x8 : Int32} {w : wS} (hL : 28 ≤ L) (h : zb_X13_actCall_p258 E L Q x2 x3 x4 x5 x6 x7 x8 w) : kzE E L kt_M343 258 [(0, .ref (w_adr E.2.1 12 0)), (2, .int x2), (3, .int x3), (4, .int x4), (5, .int x5), (6, .int x6), (7, .int x7), (8, .int x8)] [] w Q := by
  unfold zb_X13_actCall_p258 at h
  refine kz_iload (M := kt_M343) kX13_actCall_c17.2.2.2.2.2.2.1 rfl ?_
  refine kz_ic (M := kt_M343) 4 kX13_actCall_c17.2.2.2.2.2.2.2.1 rfl ?_
  refine kz_icmp_ge (M := kt_M343) kX13_actCall_c18.1 (t := 289) rfl h (fun h => ?_) (fun h => ?_)
  · skip
    refine kz_ic (M := kt_M343) 0 kX13_actCall_c19.2.2.2.2.2.2.2.1 rfl ?_
    refine kz_sti (M := kt_M343) [(0, .ref (w_adr E.2.1 12 0)), (2, .int x2), (3, .int x3), (4, .int x4), (5, .int x5), (6, .int x6), (7, .int x7)] kX13_actCall_c20.1 (Nat.le_of_ble_eq_true rfl) ⟨⟨rfl, rfl, .inl rfl⟩, ⟨⟨rfl, rfl, .inl rfl⟩, ⟨⟨rfl, rfl, .inl rfl⟩, ⟨⟨rfl, rfl, .inl rfl⟩, ⟨⟨rfl, rfl, .inl rfl⟩, ⟨⟨rfl, rfl, .inl rfl⟩, ⟨⟨rfl, rfl, .inr rfl⟩, trivial⟩⟩⟩⟩⟩⟩⟩ rfl ?_
    exact kz_weak [(0, .ref (w_adr E.2.1 12 0)), (2, .int x2), (3, .int x3), (4, .int x4), (5, .int x5), (6, .int x6), (7, .int x7), (8, .int 0)] ⟨rfl, ⟨rfl, ⟨rfl, ⟨rfl, ⟨rfl, ⟨rfl, ⟨rfl, ⟨rfl, trivial⟩⟩⟩⟩⟩⟩⟩⟩ rfl h
  · skip
    refine kz_aload_n (M := kt_M343) kX13_actCall_c18.2.1 rfl ?_
    refine kz_gfc (M := kt_M343) (x := 4175) (c := 12) (o := 0) kX13_actCall_c18.2.2.1 wf_X13_331 (.inl rfl) ?_
    refine kz_iload (M := kt_M343) kX13_actCall_c18.2.2.2.1 rfl ?_
    refine kz_ic (M := kt_M343) 4 kX13_actCall_c18.2.2.2.2.1 rfl ?_
    refine kz_imul (M := kt_M343) kX13_actCall_c18.2.2.2.2.2.1 ?_
    refine kz_iload (M := kt_M343) kX13_actCall_c18.2.2.2.2.2.2.1 rfl ?_
    refine kz_iadd (M := kt_M343) kX13_actCall_c18.2.2.2.2.2.2.2.1 ?_
    refine kz_aload_n (M := kt_M343) kX13_actCall_c19.1 rfl ?_
    refine kz_gfc (M := kt_M343) (x := 4164) (c := 12) (o := 0) kX13_actCall_c19.2.1 wf_X13_310 (.inl rfl) ?_
    refine kz_iload (M := kt_M343) kX13_actCall_c19.2.2.1 rfl ?_
    refine kz_lald (M := kt_M343) (c := 12) (o := 0) (k := 92) (a := (E.2.1 4164)) kX13_actCall_c19.2.2.2.1 ow_12_0_92 oa_12_0_92 ot_3 h (fun h => ?_)
    refine kz_last (M := kt_M343) (c := 12) (o := 0) (k := 103) (a := (E.2.1 4175)) kX13_actCall_c19.2.2.2.2.1 ow_12_0_103 oa_12_0_103 ot_3 h (fun h => ?_)
    refine kz_inc (M := kt_M343) [(0, .ref (w_adr E.2.1 12 0)), (2, .int x2), (3, .int x3), (4, .int x4), (5, .int x5), (6, .int x6), (7, .int x7)] kX13_actCall_c19.2.2.2.2.2.1 rfl (Nat.le_of_ble_eq_true rfl) ⟨⟨rfl, rfl, .inl rfl⟩, ⟨⟨rfl, rfl, .inl rfl⟩, ⟨⟨rfl, rfl, .inl rfl⟩, ⟨⟨rfl, rfl, .inl rfl⟩, ⟨⟨rfl, rfl, .inl rfl⟩, ⟨⟨rfl, rfl, .inl rfl⟩, ⟨⟨rfl, rfl, .inr rfl⟩, trivial⟩⟩⟩⟩⟩⟩⟩ rfl ?_
    refine kz_goto (M := kt_M343) kX13_actCall_c19.2.2.2.2.2.2.1 (t := 258) rfl ?_
    exact kz_weak [(0, .ref (w_adr E.2.1 12 0)), (2, .int x2), (3, .int x3), (4, .int x4), (5, .int x5), (6, .int x6), (7, .int x7), (8, .int (x8 + 1))] ⟨rfl, ⟨rfl, ⟨rfl, ⟨rfl, ⟨rfl, ⟨rfl, ⟨rfl, ⟨rfl, trivial⟩⟩⟩⟩⟩⟩⟩⟩ rfl h
def zb_X13_actCall_p221 (E : zE) (L : Nat) (Q : kx_Rs → wS → Prop) (x2 : Int32) (x3 : Int32) (x4 : Int32) (x5 : Int32) (x6 : Int32) (x7 : Int32) (w : wS) : Prop := zw E (L - 25) kt_M399 [.ref (w_adr E.2.1 12 0), .int (w_i w 12 0 90), .int (w_i w 12 0 89)] w (wk0 (fun w1 => wle w w1 → (kx_inb x5 (w_n w1 12 0 101) = true ∧ (kx_inb x5 (w_n w1 12 0 102) = true ∧ zL_X13_actCall_p258 E L Q x2 x3 x4 x5 x6 x7 0 (ws_a (ws_a w1 12 0 101 (x5).toNatClampNeg (w_i w1 12 0 89)) 12 0 102 (x5).toNatClampNeg (vp_nar .boolean (w_i w1 12 0 91)))))) (fun e w => Q (.inr e) w))
theorem zt_X13_actCall_p221 {E : zE} {L : Nat} {Q : kx_Rs → wS → Prop} {x2 : Int32} {x3 : Int32} {x4 : Int32} {x5 : Int32} {x6 : Int32} {x7 : Int32} {w : wS} (hL : 28 ≤ L) (h : zb_X13_actCall_p221 E L Q x2 x3 x4 x5 x6 x7 w) : kzE E L kt_M343 221 [(0, .ref (w_adr E.2.1 12 0)), (2, .int x2), (3, .int x3), (4, .int x4), (5, .int x5), (6, .int x6), (7, .int x7)] [] w Q := by
  unfold zb_X13_actCall_p221 at h
  refine kz_aload_n (M := kt_M343) kX13_actCall_c15.2.2.1 rfl ?_
  refine kz_aload_n (M := kt_M343) kX13_actCall_c15.2.2.2.1 rfl ?_
  refine kz_gfi (M := kt_M343) (c := 12) (o := 0) kX13_actCall_c15.2.2.2.2.1 wf_X13_977 (.inl rfl) ?_
  refine kz_aload_n (M := kt_M343) kX13_actCall_c15.2.2.2.2.2.1 rfl ?_
  refine kz_gfi (M := kt_M343) (c := 12) (o := 0) kX13_actCall_c15.2.2.2.2.2.2.1 wf_X13_974 (.inl rfl) ?_
  refine kz_cv0 (M := kt_M343) (c := 12) (o := 0) (As := [.int (w_i w 12 0 90), .int (w_i w 12 0 89)]) (rest := []) kX13_actCall_c15.2.2.2.2.2.2.2.1 wl_X13_1020 wMv_399 rfl (.inl rfl) rfl (Nat.le_trans (Nat.le_of_ble_eq_true rfl) hL) (Nat.le_of_ble_eq_true rfl) (Nat.le_of_ble_eq_true rfl) h (fun w1 hle h => ?_) (fun _ _ _ h => kzx_no rfl h)
  have h := h hle
  refine kz_aload_n (M := kt_M343) kX13_actCall_c16.1 rfl ?_
  refine kz_gfc (M := kt_M343) (x := 4173) (c := 12) (o := 0) kX13_actCall_c16.2.1 wf_X13_325 (.inl rfl) ?_
  refine kz_iload (M := kt_M343) kX13_actCall_c16.2.2.1 rfl ?_
  refine kz_aload_n (M := kt_M343) kX13_actCall_c16.2.2.2.1 rfl ?_
  refine kz_gfi (M := kt_M343) (c := 12) (o := 0) kX13_actCall_c16.2.2.2.2.1 wf_X13_974 (.inl rfl) ?_
  refine kz_iast (M := kt_M343) (c := 12) (o := 0) (k := 101) (a := (E.2.1 4173)) kX13_actCall_c16.2.2.2.2.2.1 ow_12_0_101 oa_12_0_101 ot_0 h (fun h => ?_)
  refine kz_aload_n (M := kt_M343) kX13_actCall_c16.2.2.2.2.2.2.1 rfl ?_
  refine kz_gfc (M := kt_M343) (x := 4174) (c := 12) (o := 0) kX13_actCall_c16.2.2.2.2.2.2.2.1 wf_X13_328 (.inl rfl) ?_
  refine kz_iload (M := kt_M343) kX13_actCall_c17.1 rfl ?_
  refine kz_aload_n (M := kt_M343) kX13_actCall_c17.2.1 rfl ?_
  refine kz_gfiR (M := kt_M343) (c := 12) (o := 0) (w_i w1 12 0 91) kX13_actCall_c17.2.2.1 wf_X13_988 (.inl rfl) rd_i_a ?_
  refine kz_zastR (M := kt_M343) (n := w_n w1 12 0 102) (c := 12) (o := 0) (k := 102) (a := (E.2.1 4174)) kX13_actCall_c17.2.2.2.1 ow_12_0_102 oa_12_0_102 ot_2 rd_n_a h (fun h => ?_)
  refine kz_ic (M := kt_M343) 0 kX13_actCall_c17.2.2.2.2.1 rfl ?_
  refine kz_sti (M := kt_M343) [(0, .ref (w_adr E.2.1 12 0)), (2, .int x2), (3, .int x3), (4, .int x4), (5, .int x5), (6, .int x6), (7, .int x7)] kX13_actCall_c17.2.2.2.2.2.1 (Nat.le_of_ble_eq_true rfl) ⟨⟨rfl, rfl, .inl rfl⟩, ⟨⟨rfl, rfl, .inl rfl⟩, ⟨⟨rfl, rfl, .inl rfl⟩, ⟨⟨rfl, rfl, .inl rfl⟩, ⟨⟨rfl, rfl, .inl rfl⟩, ⟨⟨rfl, rfl, .inl rfl⟩, ⟨⟨rfl, rfl, .inr rfl⟩, trivial⟩⟩⟩⟩⟩⟩⟩ rfl ?_
  exact kz_weak [(0, .ref (w_adr E.2.1 12 0)), (2, .int x2), (3, .int x3), (4, .int x4), (5, .int x5), (6, .int x6), (7, .int x7), (8, .int 0)] ⟨rfl, ⟨rfl, ⟨rfl, ⟨rfl, ⟨rfl, ⟨rfl, ⟨rfl, ⟨rfl, trivial⟩⟩⟩⟩⟩⟩⟩⟩ rfl h
def zb_X13_actCall_p147 (E : zE) (L : Nat) (Q : kx_Rs → wS → Prop) (x2 : Int32) (x3 : Int32) (x4 : Int32) (x5 : Int32) (x6 : Int32) (w : wS) : Prop := (if x6 < 0 then Q (.inl none) w else (kx_inb x4 (w_n w 12 0 34) = true ∧ (if ¬ ((w_a w 12 0 34 (x4).toNatClampNeg) &&& 4) = 0 then zb_X13_actCall_p491 E L Q x2 x3 x4 x5 x6 w else (kx_inb x4 (w_n w 12 0 31) = true ∧ zw E (L - 23) kt_M432 [.ref (w_adr E.2.1 12 0), .int x2, .int (w_a w 12 0 31 (x4).toNatClampNeg)] w (wk1 (fun v2 w1 => wle w w1 → zw E (L - 24) kt_M509 [.ref (w_adr E.2.1 12 0), .int x6] w1 (wk0 (fun w3 => wle w1 w3 → (if w_i w3 12 0 100 < 0 then zb_X13_actCall_p221 E L Q x2 x3 x4 x5 x6 v2 w3 else (kx_inb (w_i w3 12 0 100) (w_n w3 12 0 67) = true ∧ (if w_a w3 12 0 67 (w_i w3 12 0 100).toNatClampNeg ≤ w_i w3 12 0 89 then zb_X13_actCall_p221 E L Q x2 x3 x4 x5 x6 v2 w3 else (if (v2 &&& 2) = 0 then zb_X13_actCall_p221 E L Q x2 x3 x4 x5 x6 v2 w3 else zw E (L - 22) kt_M560 [.ref (w_adr E.2.1 12 0), .int 11, .int x3] w3 (wk0 (fun w5 => wle w3 w5 → zb_X13_actCall_p221 E L Q x2 x3 x4 x5 x6 v2 w5) (fun e w => Q (.inr e) w))))))) (fun e w => Q (.inr e) w))) (fun e w => Q (.inr e) w))))))
theorem zt_X13_actCall_p147 {E : zE} {L : Nat} {Q : kx_Rs → wS → Prop} {x2 : Int32} {x3 : Int32} {x4 : Int32} {x5 : Int32} {x6 : Int32} {w : wS} (hL : 28 ≤ L) (h : zb_X13_actCall_p147 E L Q x2 x3 x4 x5 x6 w) : kzE E L kt_M343 147 [(0, .ref (w_adr E.2.1 12 0)), (2, .int x2), (3, .int x3), (4, .int x4), (5, .int x5), (6, .int x6)] [] w Q := by
  unfold zb_X13_actCall_p147 at h
  refine kz_iload (M := kt_M343) kX13_actCall_c10.2.2.2.1 rfl ?_
  refine kz_if_lt (M := kt_M343) kX13_actCall_c10.2.2.2.2.1 (t := 512) rfl h (fun h => ?_) (fun h => ?_)
  · skip
    exact kz_ret (M := kt_M343) kX13_actCall_c34.2.2.1 rfl h
  · skip
    refine kz_aload_n (M := kt_M343) kX13_actCall_c10.2.2.2.2.2.1 rfl ?_
    refine kz_gfc (M := kt_M343) (x := 4106) (c := 12) (o := 0) kX13_actCall_c10.2.2.2.2.2.2.1 wf_X13_211 (.inl rfl) ?_
    refine kz_iload (M := kt_M343) kX13_actCall_c10.2.2.2.2.2.2.2.1 rfl ?_
    refine kz_iald (M := kt_M343) (c := 12) (o := 0) (k := 34) (a := (E.2.1 4106)) kX13_actCall_c11.1 ow_12_0_34 oa_12_0_34 ot_0 h (fun h => ?_)
    refine kz_ic (M := kt_M343) 4 kX13_actCall_c11.2.1 rfl ?_
    refine kz_iand (M := kt_M343) kX13_actCall_c11.2.2.1 ?_
    refine kz_if_ne (M := kt_M343) kX13_actCall_c11.2.2.2.1 (t := 491) rfl h (fun h => ?_) (fun h => ?_)
    · skip
      exact kz_weak [(0, .ref (w_adr E.2.1 12 0)), (2, .int x2), (3, .int x3), (4, .int x4), (5, .int x5), (6, .int x6)] ⟨rfl, ⟨rfl, ⟨rfl, ⟨rfl, ⟨rfl, ⟨rfl, trivial⟩⟩⟩⟩⟩⟩ rfl (zt_X13_actCall_p491 hL  h)
    · skip
      refine kz_aload_n (M := kt_M343) kX13_actCall_c11.2.2.2.2.1 rfl ?_
      refine kz_iload_n (M := kt_M343) kX13_actCall_c11.2.2.2.2.2.1 rfl ?_
      refine kz_aload_n (M := kt_M343) kX13_actCall_c11.2.2.2.2.2.2.1 rfl ?_
      refine kz_gfc (M := kt_M343) (x := 4103) (c := 12) (o := 0) kX13_actCall_c11.2.2.2.2.2.2.2.1 wf_X13_202 (.inl rfl) ?_
      refine kz_iload (M := kt_M343) kX13_actCall_c12.1 rfl ?_
      refine kz_iald (M := kt_M343) (c := 12) (o := 0) (k := 31) (a := (E.2.1 4103)) kX13_actCall_c12.2.1 ow_12_0_31 oa_12_0_31 ot_0 h (fun h => ?_)
      refine kz_cv1 (M := kt_M343) (c := 12) (o := 0) (As := [.int x2, .int (w_a w 12 0 31 (x4).toNatClampNeg)]) (rest := []) kX13_actCall_c12.2.2.1 wl_X13_1058 wMv_432 rfl (.inl rfl) rfl (Nat.le_trans (Nat.le_of_ble_eq_true rfl) hL) (Nat.le_of_ble_eq_true rfl) (Nat.le_of_ble_eq_true rfl) h (fun v2 w1 hle h => ?_) (fun _ _ _ h => kzx_no rfl h)
      have h := h hle
      refine kz_sti (M := kt_M343) [(0, .ref (w_adr E.2.1 12 0)), (2, .int x2), (3, .int x3), (4, .int x4), (5, .int x5), (6, .int x6)] kX13_actCall_c12.2.2.2.1 (Nat.le_of_ble_eq_true rfl) ⟨⟨rfl, rfl, .inl rfl⟩, ⟨⟨rfl, rfl, .inl rfl⟩, ⟨⟨rfl, rfl, .inl rfl⟩, ⟨⟨rfl, rfl, .inl rfl⟩, ⟨⟨rfl, rfl, .inl rfl⟩, ⟨⟨rfl, rfl, .inr rfl⟩, trivial⟩⟩⟩⟩⟩⟩ rfl ?_
      refine kz_aload_n (M := kt_M343) kX13_actCall_c12.2.2.2.2.1 rfl ?_
      refine kz_iload (M := kt_M343) kX13_actCall_c12.2.2.2.2.2.1 rfl ?_
      refine kz_cv0 (M := kt_M343) (c := 12) (o := 0) (As := [.int x6]) (rest := []) kX13_actCall_c12.2.2.2.2.2.2.1 wl_X13_1028 wMv_509 rfl (.inl rfl) rfl (Nat.le_trans (Nat.le_of_ble_eq_true rfl) hL) (Nat.le_of_ble_eq_true rfl) (Nat.le_of_ble_eq_true rfl) h (fun w3 hle h => ?_) (fun _ _ _ h => kzx_no rfl h)
      have h := h hle
      refine kz_aload_n (M := kt_M343) kX13_actCall_c12.2.2.2.2.2.2.2.1 rfl ?_
      refine kz_gfi (M := kt_M343) (c := 12) (o := 0) kX13_actCall_c13.1 wf_X13_1067 (.inl rfl) ?_
      refine kz_if_lt (M := kt_M343) kX13_actCall_c13.2.1 (t := 221) rfl h (fun h => ?_) (fun h => ?_)
      · skip
        exact kz_weak [(0, .ref (w_adr E.2.1 12 0)), (2, .int x2), (3, .int x3), (4, .int x4), (5, .int x5), (6, .int x6), (7, .int v2)] ⟨rfl, ⟨rfl, ⟨rfl, ⟨rfl, ⟨rfl, ⟨rfl, ⟨rfl, trivial⟩⟩⟩⟩⟩⟩⟩ rfl (zt_X13_actCall_p221 hL  h)
      · skip
        refine kz_aload_n (M := kt_M343) kX13_actCall_c13.2.2.1 rfl ?_
        refine kz_gfi (M := kt_M343) (c := 12) (o := 0) kX13_actCall_c13.2.2.2.1 wf_X13_974 (.inl rfl) ?_
        refine kz_aload_n (M := kt_M343) kX13_actCall_c13.2.2.2.2.1 rfl ?_
        refine kz_gfc (M := kt_M343) (x := 4139) (c := 12) (o := 0) kX13_actCall_c13.2.2.2.2.2.1 wf_X13_269 (.inl rfl) ?_
        refine kz_aload_n (M := kt_M343) kX13_actCall_c13.2.2.2.2.2.2.1 rfl ?_
        refine kz_gfi (M := kt_M343) (c := 12) (o := 0) kX13_actCall_c13.2.2.2.2.2.2.2.1 wf_X13_1067 (.inl rfl) ?_
        refine kz_iald (M := kt_M343) (c := 12) (o := 0) (k := 67) (a := (E.2.1 4139)) kX13_actCall_c14.1 ow_12_0_67 oa_12_0_67 ot_0 h (fun h => ?_)
        refine kz_icmp_ge (M := kt_M343) kX13_actCall_c14.2.1 (t := 221) rfl h (fun h => ?_) (fun h => ?_)
        · skip
          exact kz_weak [(0, .ref (w_adr E.2.1 12 0)), (2, .int x2), (3, .int x3), (4, .int x4), (5, .int x5), (6, .int x6), (7, .int v2)] ⟨rfl, ⟨rfl, ⟨rfl, ⟨rfl, ⟨rfl, ⟨rfl, ⟨rfl, trivial⟩⟩⟩⟩⟩⟩⟩ rfl (zt_X13_actCall_p221 hL  h)
        · skip
          refine kz_iload (M := kt_M343) kX13_actCall_c14.2.2.1 rfl ?_
          refine kz_ic (M := kt_M343) 2 kX13_actCall_c14.2.2.2.1 rfl ?_
          refine kz_iand (M := kt_M343) kX13_actCall_c14.2.2.2.2.1 ?_
          refine kz_if_eq (M := kt_M343) kX13_actCall_c14.2.2.2.2.2.1 (t := 221) rfl h (fun h => ?_) (fun h => ?_)
          · skip
            exact kz_weak [(0, .ref (w_adr E.2.1 12 0)), (2, .int x2), (3, .int x3), (4, .int x4), (5, .int x5), (6, .int x6), (7, .int v2)] ⟨rfl, ⟨rfl, ⟨rfl, ⟨rfl, ⟨rfl, ⟨rfl, ⟨rfl, trivial⟩⟩⟩⟩⟩⟩⟩ rfl (zt_X13_actCall_p221 hL  h)
          · skip
            refine kz_aload_n (M := kt_M343) kX13_actCall_c14.2.2.2.2.2.2.1 rfl ?_
            refine kz_bi (M := kt_M343) 11 kX13_actCall_c14.2.2.2.2.2.2.2.1 rfl ?_
            refine kz_iload_n (M := kt_M343) kX13_actCall_c15.1 rfl ?_
            refine kz_cv0 (M := kt_M343) (c := 12) (o := 0) (As := [.int 11, .int x3]) (rest := []) kX13_actCall_c15.2.1 wl_X13_734 wMv_560 rfl (.inl rfl) rfl (Nat.le_trans (Nat.le_of_ble_eq_true rfl) hL) (Nat.le_of_ble_eq_true rfl) (Nat.le_of_ble_eq_true rfl) h (fun w5 hle h => ?_) (fun _ _ _ h => kzx_no rfl h)
            have h := h hle
            exact kz_weak [(0, .ref (w_adr E.2.1 12 0)), (2, .int x2), (3, .int x3), (4, .int x4), (5, .int x5), (6, .int x6), (7, .int v2)] ⟨rfl, ⟨rfl, ⟨rfl, ⟨rfl, ⟨rfl, ⟨rfl, ⟨rfl, trivial⟩⟩⟩⟩⟩⟩⟩ rfl (zt_X13_actCall_p221 hL  h)
def zb_X13_actCall_p128 (E : zE) (L : Nat) (Q : kx_Rs → wS → Prop) (x1 : Int32) (x2 : Int32) (x3 : Int32) (w : wS) : Prop := (kx_inb x2 (w_n w 12 0 28) = true ∧ (kx_inb x1 (w_n w 12 0 28) = true ∧ zL_X13_actCall_p147 E L Q x2 x3 (w_a w 12 0 28 (x2).toNatClampNeg) 0 (w_a w 12 0 28 (x1).toNatClampNeg) w))
theorem zt_X13_actCall_p128 {E : zE} {L : Nat} {Q : kx_Rs → wS → Prop} {x1 : Int32} {x2 : Int32} {x3 : Int32} {w : wS} (hL : 28 ≤ L) (h : zb_X13_actCall_p128 E L Q x1 x2 x3 w) : kzE E L kt_M343 128 [(0, .ref (w_adr E.2.1 12 0)), (1, .int x1), (2, .int x2), (3, .int x3)] [] w Q := by
  unfold zb_X13_actCall_p128 at h
  refine kz_aload_n (M := kt_M343) kX13_actCall_c8.2.2.2.2.2.2.2.1 rfl ?_
  refine kz_gfc (M := kt_M343) (x := 4100) (c := 12) (o := 0) kX13_actCall_c9.1 wf_X13_193 (.inl rfl) ?_
  refine kz_iload_n (M := kt_M343) kX13_actCall_c9.2.1 rfl ?_
  refine kz_iald (M := kt_M343) (c := 12) (o := 0) (k := 28) (a := (E.2.1 4100)) kX13_actCall_c9.2.2.1 ow_12_0_28 oa_12_0_28 ot_0 h (fun h => ?_)
  refine kz_sti (M := kt_M343) [(0, .ref (w_adr E.2.1 12 0)), (1, .int x1), (2, .int x2), (3, .int x3)] kX13_actCall_c9.2.2.2.1 (Nat.le_of_ble_eq_true rfl) ⟨⟨rfl, rfl, .inl rfl⟩, ⟨⟨rfl, rfl, .inl rfl⟩, ⟨⟨rfl, rfl, .inl rfl⟩, ⟨⟨rfl, rfl, .inr rfl⟩, trivial⟩⟩⟩⟩ rfl ?_
  refine kz_ic (M := kt_M343) 0 kX13_actCall_c9.2.2.2.2.1 rfl ?_
  refine kz_sti (M := kt_M343) [(0, .ref (w_adr E.2.1 12 0)), (1, .int x1), (2, .int x2), (3, .int x3), (4, .int (w_a w 12 0 28 (x2).toNatClampNeg))] kX13_actCall_c9.2.2.2.2.2.1 (Nat.le_of_ble_eq_true rfl) ⟨⟨rfl, rfl, .inl rfl⟩, ⟨⟨rfl, rfl, .inl rfl⟩, ⟨⟨rfl, rfl, .inl rfl⟩, ⟨⟨rfl, rfl, .inl rfl⟩, ⟨⟨rfl, rfl, .inr rfl⟩, trivial⟩⟩⟩⟩⟩ rfl ?_
  refine kz_aload_n (M := kt_M343) kX13_actCall_c9.2.2.2.2.2.2.1 rfl ?_
  refine kz_gfc (M := kt_M343) (x := 4100) (c := 12) (o := 0) kX13_actCall_c9.2.2.2.2.2.2.2.1 wf_X13_193 (.inl rfl) ?_
  refine kz_iload_n (M := kt_M343) kX13_actCall_c10.1 rfl ?_
  refine kz_iald (M := kt_M343) (c := 12) (o := 0) (k := 28) (a := (E.2.1 4100)) kX13_actCall_c10.2.1 ow_12_0_28 oa_12_0_28 ot_0 h (fun h => ?_)
  refine kz_sti (M := kt_M343) [(0, .ref (w_adr E.2.1 12 0)), (2, .int x2), (3, .int x3), (4, .int (w_a w 12 0 28 (x2).toNatClampNeg)), (5, .int 0)] kX13_actCall_c10.2.2.1 (Nat.le_of_ble_eq_true rfl) ⟨⟨rfl, rfl, .inl rfl⟩, ⟨⟨rfl, rfl, .inl rfl⟩, ⟨⟨rfl, rfl, .inl rfl⟩, ⟨⟨rfl, rfl, .inl rfl⟩, ⟨⟨rfl, rfl, .inr rfl⟩, trivial⟩⟩⟩⟩⟩ rfl ?_
  exact kz_weak [(0, .ref (w_adr E.2.1 12 0)), (2, .int x2), (3, .int x3), (4, .int (w_a w 12 0 28 (x2).toNatClampNeg)), (5, .int 0), (6, .int (w_a w 12 0 28 (x1).toNatClampNeg))] ⟨rfl, ⟨rfl, ⟨rfl, ⟨rfl, ⟨rfl, ⟨rfl, trivial⟩⟩⟩⟩⟩⟩ rfl h
def zb_X13_actCall_p122 (E : zE) (L : Nat) (Q : kx_Rs → wS → Prop) (x1 : Int32) (x2 : Int32) (x3 : Int32) (x4 : Int32) (w : wS) : Prop := zL_X13_actCall_p50 E L Q x1 x2 x3 (x4 + 1) w
theorem zt_X13_actCall_p122 {E : zE} {L : Nat} {Q : kx_Rs → wS → Prop} {x1 : Int32} {x2 : Int32} {x3 : Int32} {x4 : Int32} {w : wS} (hL : 28 ≤ L) (h : zb_X13_actCall_p122 E L Q x1 x2 x3 x4 w) : kzE E L kt_M343 122 [(0, .ref (w_adr E.2.1 12 0)), (1, .int x1), (2, .int x2), (3, .int x3), (4, .int x4)] [] w Q := by
  unfold zb_X13_actCall_p122 at h
  refine kz_inc (M := kt_M343) [(0, .ref (w_adr E.2.1 12 0)), (1, .int x1), (2, .int x2), (3, .int x3)] kX13_actCall_c8.2.2.2.2.2.1 rfl (Nat.le_of_ble_eq_true rfl) ⟨⟨rfl, rfl, .inl rfl⟩, ⟨⟨rfl, rfl, .inl rfl⟩, ⟨⟨rfl, rfl, .inl rfl⟩, ⟨⟨rfl, rfl, .inr rfl⟩, trivial⟩⟩⟩⟩ rfl ?_
  refine kz_goto (M := kt_M343) kX13_actCall_c8.2.2.2.2.2.2.1 (t := 50) rfl ?_
  exact kz_weak [(0, .ref (w_adr E.2.1 12 0)), (1, .int x1), (2, .int x2), (3, .int x3), (4, .int (x4 + 1))] ⟨rfl, ⟨rfl, ⟨rfl, ⟨rfl, ⟨rfl, trivial⟩⟩⟩⟩⟩ rfl h
def zb_X13_actCall_p50 (E : zE) (L : Nat) (Q : kx_Rs → wS → Prop) (x1 : Int32) (x2 : Int32) (x3 : Int32) (x4 : Int32) (w : wS) : Prop := (kx_inb x2 (w_n w 12 0 84) = true ∧ (if w_a w 12 0 84 (x2).toNatClampNeg ≤ x4 then zb_X13_actCall_p128 E L Q x1 x2 x3 w else (if w_i w 12 0 100 < 0 then zb_X13_actCall_p128 E L Q x1 x2 x3 w else (kx_inb x4 (w_n w 12 0 81) = true ∧ (kx_inb x2 (w_n w 12 0 67) = true ∧ (if w_a w 12 0 67 (x2).toNatClampNeg ≤ w_a w 12 0 81 (x4).toNatClampNeg then zb_X13_actCall_p122 E L Q x1 x2 x3 x4 w else (kx_inb x4 (w_n w 12 0 81) = true ∧ (kx_inb (w_i w 12 0 100) (w_n w 12 0 67) = true ∧ (if w_a w 12 0 67 (w_i w 12 0 100).toNatClampNeg ≤ w_a w 12 0 81 (x4).toNatClampNeg then zb_X13_actCall_p122 E L Q x1 x2 x3 x4 w else (kx_inb x4 (w_n w 12 0 82) = true ∧ (if ((w_a w 12 0 82 (x4).toNatClampNeg) &&& 2) = 0 then zb_X13_actCall_p122 E L Q x1 x2 x3 x4 w else zw E (L - 22) kt_M560 [.ref (w_adr E.2.1 12 0), .int 11, .int x3] w (wk0 (fun w1 => wle w w1 → zb_X13_actCall_p122 E L Q x1 x2 x3 x4 w1) (fun e w => Q (.inr e) w)))))))))))))
theorem zt_X13_actCall_p50 {E : zE} {L : Nat} {Q : kx_Rs → wS → Prop} {x1 : Int32} {x2 : Int32} {x3 : Int32} {x4 : Int32} {w : wS} (hL : 28 ≤ L) (h : zb_X13_actCall_p50 E L Q x1 x2 x3 x4 w) : kzE E L kt_M343 50 [(0, .ref (w_adr E.2.1 12 0)), (1, .int x1), (2, .int x2), (3, .int x3), (4, .int x4)] [] w Q := by
  unfold zb_X13_actCall_p50 at h
  refine kz_iload (M := kt_M343) kX13_actCall_c3.2.2.2.2.2.2.1 rfl ?_
  refine kz_aload_n (M := kt_M343) kX13_actCall_c3.2.2.2.2.2.2.2.1 rfl ?_
  refine kz_gfc (M := kt_M343) (x := 4156) (c := 12) (o := 0) kX13_actCall_c4.1 wf_X13_304 (.inl rfl) ?_
  refine kz_iload_n (M := kt_M343) kX13_actCall_c4.2.1 rfl ?_
  refine kz_iald (M := kt_M343) (c := 12) (o := 0) (k := 84) (a := (E.2.1 4156)) kX13_actCall_c4.2.2.1 ow_12_0_84 oa_12_0_84 ot_0 h (fun h => ?_)
  refine kz_icmp_ge (M := kt_M343) kX13_actCall_c4.2.2.2.1 (t := 128) rfl h (fun h => ?_) (fun h => ?_)
  · skip
    exact kz_weak [(0, .ref (w_adr E.2.1 12 0)), (1, .int x1), (2, .int x2), (3, .int x3)] ⟨rfl, ⟨rfl, ⟨rfl, ⟨rfl, trivial⟩⟩⟩⟩ rfl (zt_X13_actCall_p128 hL  h)
  · skip
    refine kz_aload_n (M := kt_M343) kX13_actCall_c4.2.2.2.2.1 rfl ?_
    refine kz_gfi (M := kt_M343) (c := 12) (o := 0) kX13_actCall_c4.2.2.2.2.2.1 wf_X13_1067 (.inl rfl) ?_
    refine kz_if_lt (M := kt_M343) kX13_actCall_c4.2.2.2.2.2.2.1 (t := 128) rfl h (fun h => ?_) (fun h => ?_)
    · skip
      exact kz_weak [(0, .ref (w_adr E.2.1 12 0)), (1, .int x1), (2, .int x2), (3, .int x3)] ⟨rfl, ⟨rfl, ⟨rfl, ⟨rfl, trivial⟩⟩⟩⟩ rfl (zt_X13_actCall_p128 hL  h)
    · skip
      refine kz_aload_n (M := kt_M343) kX13_actCall_c4.2.2.2.2.2.2.2.1 rfl ?_
      refine kz_gfa (M := kt_M343) (c := 12) (o := 0) kX13_actCall_c5.1 wf_X13_295 (.inl rfl) ?_
      refine kz_iload (M := kt_M343) kX13_actCall_c5.2.1 rfl ?_
      refine kz_iald (M := kt_M343) (c := 12) (o := 0) (k := 81) (a := (w_d w 12 0 81)) kX13_actCall_c5.2.2.1 ow_12_0_81 oa_12_0_81 ot_0 h (fun h => ?_)
      refine kz_aload_n (M := kt_M343) kX13_actCall_c5.2.2.2.1 rfl ?_
      refine kz_gfc (M := kt_M343) (x := 4139) (c := 12) (o := 0) kX13_actCall_c5.2.2.2.2.1 wf_X13_269 (.inl rfl) ?_
      refine kz_iload_n (M := kt_M343) kX13_actCall_c5.2.2.2.2.2.1 rfl ?_
      refine kz_iald (M := kt_M343) (c := 12) (o := 0) (k := 67) (a := (E.2.1 4139)) kX13_actCall_c5.2.2.2.2.2.2.1 ow_12_0_67 oa_12_0_67 ot_0 h (fun h => ?_)
      refine kz_icmp_ge (M := kt_M343) kX13_actCall_c5.2.2.2.2.2.2.2.1 (t := 122) rfl h (fun h => ?_) (fun h => ?_)
      · skip
        exact kz_weak [(0, .ref (w_adr E.2.1 12 0)), (1, .int x1), (2, .int x2), (3, .int x3), (4, .int x4)] ⟨rfl, ⟨rfl, ⟨rfl, ⟨rfl, ⟨rfl, trivial⟩⟩⟩⟩⟩ rfl (zt_X13_actCall_p122 hL  h)
      · skip
        refine kz_aload_n (M := kt_M343) kX13_actCall_c6.1 rfl ?_
        refine kz_gfa (M := kt_M343) (c := 12) (o := 0) kX13_actCall_c6.2.1 wf_X13_295 (.inl rfl) ?_
        refine kz_iload (M := kt_M343) kX13_actCall_c6.2.2.1 rfl ?_
        refine kz_iald (M := kt_M343) (c := 12) (o := 0) (k := 81) (a := (w_d w 12 0 81)) kX13_actCall_c6.2.2.2.1 ow_12_0_81 oa_12_0_81 ot_0 h (fun h => ?_)
        refine kz_aload_n (M := kt_M343) kX13_actCall_c6.2.2.2.2.1 rfl ?_
        refine kz_gfc (M := kt_M343) (x := 4139) (c := 12) (o := 0) kX13_actCall_c6.2.2.2.2.2.1 wf_X13_269 (.inl rfl) ?_
        refine kz_aload_n (M := kt_M343) kX13_actCall_c6.2.2.2.2.2.2.1 rfl ?_
        refine kz_gfi (M := kt_M343) (c := 12) (o := 0) kX13_actCall_c6.2.2.2.2.2.2.2.1 wf_X13_1067 (.inl rfl) ?_
        refine kz_iald (M := kt_M343) (c := 12) (o := 0) (k := 67) (a := (E.2.1 4139)) kX13_actCall_c7.1 ow_12_0_67 oa_12_0_67 ot_0 h (fun h => ?_)
        refine kz_icmp_ge (M := kt_M343) kX13_actCall_c7.2.1 (t := 122) rfl h (fun h => ?_) (fun h => ?_)
        · skip
          exact kz_weak [(0, .ref (w_adr E.2.1 12 0)), (1, .int x1), (2, .int x2), (3, .int x3), (4, .int x4)] ⟨rfl, ⟨rfl, ⟨rfl, ⟨rfl, ⟨rfl, trivial⟩⟩⟩⟩⟩ rfl (zt_X13_actCall_p122 hL  h)
        · skip
          refine kz_aload_n (M := kt_M343) kX13_actCall_c7.2.2.1 rfl ?_
          refine kz_gfa (M := kt_M343) (c := 12) (o := 0) kX13_actCall_c7.2.2.2.1 wf_X13_298 (.inl rfl) ?_
          refine kz_iload (M := kt_M343) kX13_actCall_c7.2.2.2.2.1 rfl ?_
          refine kz_iald (M := kt_M343) (c := 12) (o := 0) (k := 82) (a := (w_d w 12 0 82)) kX13_actCall_c7.2.2.2.2.2.1 ow_12_0_82 oa_12_0_82 ot_0 h (fun h => ?_)
          refine kz_ic (M := kt_M343) 2 kX13_actCall_c7.2.2.2.2.2.2.1 rfl ?_
          refine kz_iand (M := kt_M343) kX13_actCall_c7.2.2.2.2.2.2.2.1 ?_
          refine kz_if_eq (M := kt_M343) kX13_actCall_c8.1 (t := 122) rfl h (fun h => ?_) (fun h => ?_)
          · skip
            exact kz_weak [(0, .ref (w_adr E.2.1 12 0)), (1, .int x1), (2, .int x2), (3, .int x3), (4, .int x4)] ⟨rfl, ⟨rfl, ⟨rfl, ⟨rfl, ⟨rfl, trivial⟩⟩⟩⟩⟩ rfl (zt_X13_actCall_p122 hL  h)
          · skip
            refine kz_aload_n (M := kt_M343) kX13_actCall_c8.2.1 rfl ?_
            refine kz_bi (M := kt_M343) 11 kX13_actCall_c8.2.2.1 rfl ?_
            refine kz_iload_n (M := kt_M343) kX13_actCall_c8.2.2.2.1 rfl ?_
            refine kz_cv0 (M := kt_M343) (c := 12) (o := 0) (As := [.int 11, .int x3]) (rest := []) kX13_actCall_c8.2.2.2.2.1 wl_X13_734 wMv_560 rfl (.inl rfl) rfl (Nat.le_trans (Nat.le_of_ble_eq_true rfl) hL) (Nat.le_of_ble_eq_true rfl) (Nat.le_of_ble_eq_true rfl) h (fun w1 hle h => ?_) (fun _ _ _ h => kzx_no rfl h)
            have h := h hle
            exact kz_weak [(0, .ref (w_adr E.2.1 12 0)), (1, .int x1), (2, .int x2), (3, .int x3), (4, .int x4)] ⟨rfl, ⟨rfl, ⟨rfl, ⟨rfl, ⟨rfl, trivial⟩⟩⟩⟩⟩ rfl (zt_X13_actCall_p122 hL  h)
def zb_X13_actCall_p42 (E : zE) (L : Nat) (Q : kx_Rs → wS → Prop) (x1 : Int32) (x2 : Int32) (x3 : Int32) (w : wS) : Prop := (kx_inb x2 (w_n w 12 0 83) = true ∧ zL_X13_actCall_p50 E L Q x1 x2 x3 (w_a w 12 0 83 (x2).toNatClampNeg) w)
theorem zt_X13_actCall_p42 {E : zE} {L : Nat} {Q : kx_Rs → wS → Prop} {x1 : Int32} {x2 : Int32} {x3 : Int32} {w : wS} (hL : 28 ≤ L) (h : zb_X13_actCall_p42 E L Q x1 x2 x3 w) : kzE E L kt_M343 42 [(0, .ref (w_adr E.2.1 12 0)), (1, .int x1), (2, .int x2), (3, .int x3)] [] w Q := by
  unfold zb_X13_actCall_p42 at h
  refine kz_aload_n (M := kt_M343) kX13_actCall_c3.2.1 rfl ?_
  refine kz_gfc (M := kt_M343) (x := 4155) (c := 12) (o := 0) kX13_actCall_c3.2.2.1 wf_X13_301 (.inl rfl) ?_
  refine kz_iload_n (M := kt_M343) kX13_actCall_c3.2.2.2.1 rfl ?_
  refine kz_iald (M := kt_M343) (c := 12) (o := 0) (k := 83) (a := (E.2.1 4155)) kX13_actCall_c3.2.2.2.2.1 ow_12_0_83 oa_12_0_83 ot_0 h (fun h => ?_)
  refine kz_sti (M := kt_M343) [(0, .ref (w_adr E.2.1 12 0)), (1, .int x1), (2, .int x2), (3, .int x3)] kX13_actCall_c3.2.2.2.2.2.1 (Nat.le_of_ble_eq_true rfl) ⟨⟨rfl, rfl, .inl rfl⟩, ⟨⟨rfl, rfl, .inl rfl⟩, ⟨⟨rfl, rfl, .inl rfl⟩, ⟨⟨rfl, rfl, .inr rfl⟩, trivial⟩⟩⟩⟩ rfl ?_
  exact kz_weak [(0, .ref (w_adr E.2.1 12 0)), (1, .int x1), (2, .int x2), (3, .int x3), (4, .int (w_a w 12 0 83 (x2).toNatClampNeg))] ⟨rfl, ⟨rfl, ⟨rfl, ⟨rfl, ⟨rfl, trivial⟩⟩⟩⟩⟩ rfl h
def zb_X13_actCall_p0 (E : zE) (L : Nat) (Q : kx_Rs → wS → Prop) (x1 : Int32) (w : wS) : Prop := (kx_inb x1 (w_n w 12 0 31) = true ∧ (kx_inb (w_a w 12 0 31 (x1).toNatClampNeg) (w_n w 12 0 49) = true ∧ (kx_inb x1 (w_n w 12 0 27) = true ∧ (if w_i w 12 0 100 < 0 then zb_X13_actCall_p42 E L Q x1 (w_a w 12 0 49 (w_a w 12 0 31 (x1).toNatClampNeg).toNatClampNeg) (w_a w 12 0 27 (x1).toNatClampNeg) w else (kx_inb (w_a w 12 0 49 (w_a w 12 0 31 (x1).toNatClampNeg).toNatClampNeg) (w_n w 12 0 85) = true ∧ (if w_a w 12 0 85 (w_a w 12 0 49 (w_a w 12 0 31 (x1).toNatClampNeg).toNatClampNeg).toNatClampNeg = 0 then zb_X13_actCall_p42 E L Q x1 (w_a w 12 0 49 (w_a w 12 0 31 (x1).toNatClampNeg).toNatClampNeg) (w_a w 12 0 27 (x1).toNatClampNeg) w else zw E (L - 22) kt_M560 [.ref (w_adr E.2.1 12 0), .int 11, .int (w_a w 12 0 27 (x1).toNatClampNeg)] w (wk0 (fun w1 => wle w w1 → zb_X13_actCall_p42 E L Q x1 (w_a w 12 0 49 (w_a w 12 0 31 (x1).toNatClampNeg).toNatClampNeg) (w_a w 12 0 27 (x1).toNatClampNeg) w1) (fun e w => Q (.inr e) w))))))))
theorem zt_X13_actCall_p0 {E : zE} {L : Nat} {Q : kx_Rs → wS → Prop} {x1 : Int32} {w : wS} (hL : 28 ≤ L) (h : zb_X13_actCall_p0 E L Q x1 w) : kzE E L kt_M343 0 [(0, .ref (w_adr E.2.1 12 0)), (1, .int x1)] [] w Q := by
  unfold zb_X13_actCall_p0 at h
  refine kz_aload_n (M := kt_M343) kX13_actCall_c0.1 rfl ?_
  refine kz_gfc (M := kt_M343) (x := 4121) (c := 12) (o := 0) kX13_actCall_c0.2.1 wf_X13_232 (.inl rfl) ?_
  refine kz_aload_n (M := kt_M343) kX13_actCall_c0.2.2.1 rfl ?_
  refine kz_gfc (M := kt_M343) (x := 4103) (c := 12) (o := 0) kX13_actCall_c0.2.2.2.1 wf_X13_202 (.inl rfl) ?_
  refine kz_iload_n (M := kt_M343) kX13_actCall_c0.2.2.2.2.1 rfl ?_
  refine kz_iald (M := kt_M343) (c := 12) (o := 0) (k := 31) (a := (E.2.1 4103)) kX13_actCall_c0.2.2.2.2.2.1 ow_12_0_31 oa_12_0_31 ot_0 h (fun h => ?_)
  refine kz_iald (M := kt_M343) (c := 12) (o := 0) (k := 49) (a := (E.2.1 4121)) kX13_actCall_c0.2.2.2.2.2.2.1 ow_12_0_49 oa_12_0_49 ot_0 h (fun h => ?_)
  refine kz_sti_n (M := kt_M343) [(0, .ref (w_adr E.2.1 12 0)), (1, .int x1)] kX13_actCall_c0.2.2.2.2.2.2.2.1 (Nat.le_of_ble_eq_true rfl) ⟨⟨rfl, rfl, .inl rfl⟩, ⟨⟨rfl, rfl, .inr rfl⟩, trivial⟩⟩ rfl ?_
  refine kz_aload_n (M := kt_M343) kX13_actCall_c1.1 rfl ?_
  refine kz_gfc (M := kt_M343) (x := 4099) (c := 12) (o := 0) kX13_actCall_c1.2.1 wf_X13_190 (.inl rfl) ?_
  refine kz_iload_n (M := kt_M343) kX13_actCall_c1.2.2.1 rfl ?_
  refine kz_iald (M := kt_M343) (c := 12) (o := 0) (k := 27) (a := (E.2.1 4099)) kX13_actCall_c1.2.2.2.1 ow_12_0_27 oa_12_0_27 ot_0 h (fun h => ?_)
  refine kz_sti_n (M := kt_M343) [(0, .ref (w_adr E.2.1 12 0)), (1, .int x1), (2, .int (w_a w 12 0 49 (w_a w 12 0 31 (x1).toNatClampNeg).toNatClampNeg))] kX13_actCall_c1.2.2.2.2.1 (Nat.le_of_ble_eq_true rfl) ⟨⟨rfl, rfl, .inl rfl⟩, ⟨⟨rfl, rfl, .inl rfl⟩, ⟨⟨rfl, rfl, .inr rfl⟩, trivial⟩⟩⟩ rfl ?_
  refine kz_aload_n (M := kt_M343) kX13_actCall_c1.2.2.2.2.2.1 rfl ?_
  refine kz_gfi (M := kt_M343) (c := 12) (o := 0) kX13_actCall_c1.2.2.2.2.2.2.1 wf_X13_1067 (.inl rfl) ?_
  refine kz_if_lt (M := kt_M343) kX13_actCall_c1.2.2.2.2.2.2.2.1 (t := 42) rfl h (fun h => ?_) (fun h => ?_)
  · skip
    exact kz_weak [(0, .ref (w_adr E.2.1 12 0)), (1, .int x1), (2, .int (w_a w 12 0 49 (w_a w 12 0 31 (x1).toNatClampNeg).toNatClampNeg)), (3, .int (w_a w 12 0 27 (x1).toNatClampNeg))] ⟨rfl, ⟨rfl, ⟨rfl, ⟨rfl, trivial⟩⟩⟩⟩ rfl (zt_X13_actCall_p42 hL  h)
  · skip
    refine kz_aload_n (M := kt_M343) kX13_actCall_c2.1 rfl ?_
    refine kz_gfc (M := kt_M343) (x := 4157) (c := 12) (o := 0) kX13_actCall_c2.2.1 wf_X13_307 (.inl rfl) ?_
    refine kz_iload_n (M := kt_M343) kX13_actCall_c2.2.2.1 rfl ?_
    refine kz_zald (M := kt_M343) (c := 12) (o := 0) (k := 85) (a := (E.2.1 4157)) kX13_actCall_c2.2.2.2.1 ow_12_0_85 oa_12_0_85 ot_2 h (fun h => ?_)
    refine kz_if_eq (M := kt_M343) kX13_actCall_c2.2.2.2.2.1 (t := 42) rfl h (fun h => ?_) (fun h => ?_)
    · skip
      exact kz_weak [(0, .ref (w_adr E.2.1 12 0)), (1, .int x1), (2, .int (w_a w 12 0 49 (w_a w 12 0 31 (x1).toNatClampNeg).toNatClampNeg)), (3, .int (w_a w 12 0 27 (x1).toNatClampNeg))] ⟨rfl, ⟨rfl, ⟨rfl, ⟨rfl, trivial⟩⟩⟩⟩ rfl (zt_X13_actCall_p42 hL  h)
    · skip
      refine kz_aload_n (M := kt_M343) kX13_actCall_c2.2.2.2.2.2.1 rfl ?_
      refine kz_bi (M := kt_M343) 11 kX13_actCall_c2.2.2.2.2.2.2.1 rfl ?_
      refine kz_iload_n (M := kt_M343) kX13_actCall_c2.2.2.2.2.2.2.2.1 rfl ?_
      refine kz_cv0 (M := kt_M343) (c := 12) (o := 0) (As := [.int 11, .int (w_a w 12 0 27 (x1).toNatClampNeg)]) (rest := []) kX13_actCall_c3.1 wl_X13_734 wMv_560 rfl (.inl rfl) rfl (Nat.le_trans (Nat.le_of_ble_eq_true rfl) hL) (Nat.le_of_ble_eq_true rfl) (Nat.le_of_ble_eq_true rfl) h (fun w1 hle h => ?_) (fun _ _ _ h => kzx_no rfl h)
      have h := h hle
      exact kz_weak [(0, .ref (w_adr E.2.1 12 0)), (1, .int x1), (2, .int (w_a w 12 0 49 (w_a w 12 0 31 (x1).toNatClampNeg).toNatClampNeg)), (3, .int (w_a w 12 0 27 (x1).toNatClampNeg))] ⟨rfl, ⟨rfl, ⟨rfl, ⟨rfl, trivial⟩⟩⟩⟩ rfl (zt_X13_actCall_p42 hL  h)
def zb_X13_sideBlock_p0 (E : zE) (L : Nat) (Q : kx_Rs → wS → Prop) (x1 : Int32) (w : wS) : Prop := (kx_inb x1 (w_n w 12 0 28) = true ∧ zw E (L - 22) kt_M534 [.ref (w_adr E.2.1 12 0), .int (w_a w 12 0 28 (x1).toNatClampNeg)] w (wk0 (fun w1 => wle w w1 → (kx_inb x1 (w_n w1 12 0 29) = true ∧ zw E (L - 22) kt_M532 [.ref (w_adr E.2.1 12 0), .int (w_a w1 12 0 29 (x1).toNatClampNeg)] w1 (wk0 (fun w3 => wle w1 w3 → Q (.inl none) w3) (fun e w => Q (.inr e) w)))) (fun e w => Q (.inr e) w)))
theorem zt_X13_sideBlock_p0 {E : zE} {L : Nat} {Q : kx_Rs → wS → Prop} {x1 : Int32} {w : wS} (hL : 22 ≤ L) (h : zb_X13_sideBlock_p0 E L Q x1 w) : kzE E L kt_M533 0 [(0, .ref (w_adr E.2.1 12 0)), (1, .int x1)] [] w Q := by
  unfold zb_X13_sideBlock_p0 at h
  refine kz_aload_n (M := kt_M533) kX13_sideBlock_c0.1 rfl ?_
  refine kz_aload_n (M := kt_M533) kX13_sideBlock_c0.2.1 rfl ?_
  refine kz_gfc (M := kt_M533) (x := 4100) (c := 12) (o := 0) kX13_sideBlock_c0.2.2.1 wf_X13_193 (.inl rfl) ?_
  refine kz_iload_n (M := kt_M533) kX13_sideBlock_c0.2.2.2.1 rfl ?_
  refine kz_iald (M := kt_M533) (c := 12) (o := 0) (k := 28) (a := (E.2.1 4100)) kX13_sideBlock_c0.2.2.2.2.1 ow_12_0_28 oa_12_0_28 ot_0 h (fun h => ?_)
  refine kz_cv0 (M := kt_M533) (c := 12) (o := 0) (As := [.int (w_a w 12 0 28 (x1).toNatClampNeg)]) (rest := []) kX13_sideBlock_c0.2.2.2.2.2.1 wl_X13_1102 wMv_534 rfl (.inl rfl) rfl (Nat.le_trans (Nat.le_of_ble_eq_true rfl) hL) (Nat.le_of_ble_eq_true rfl) (Nat.le_of_ble_eq_true rfl) h (fun w1 hle h => ?_) (fun _ _ _ h => kzx_no rfl h)
  have h := h hle
  refine kz_aload_n (M := kt_M533) kX13_sideBlock_c0.2.2.2.2.2.2.1 rfl ?_
  refine kz_aload_n (M := kt_M533) kX13_sideBlock_c0.2.2.2.2.2.2.2.1 rfl ?_
  refine kz_gfc (M := kt_M533) (x := 4101) (c := 12) (o := 0) kX13_sideBlock_c1.1 wf_X13_196 (.inl rfl) ?_
  refine kz_iload_n (M := kt_M533) kX13_sideBlock_c1.2.1 rfl ?_
  refine kz_iald (M := kt_M533) (c := 12) (o := 0) (k := 29) (a := (E.2.1 4101)) kX13_sideBlock_c1.2.2.1 ow_12_0_29 oa_12_0_29 ot_0 h (fun h => ?_)
  refine kz_cv0 (M := kt_M533) (c := 12) (o := 0) (As := [.int (w_a w1 12 0 29 (x1).toNatClampNeg)]) (rest := []) kX13_sideBlock_c1.2.2.2.1 wl_X13_1105 wMv_532 rfl (.inl rfl) rfl (Nat.le_trans (Nat.le_of_ble_eq_true rfl) hL) (Nat.le_of_ble_eq_true rfl) (Nat.le_of_ble_eq_true rfl) h (fun w3 hle h => ?_) (fun _ _ _ h => kzx_no rfl h)
  have h := h hle
  exact kz_ret (M := kt_M533) kX13_sideBlock_c1.2.2.2.2.1 rfl h
def zL_X13_sideDeclarations_p2 (E : zE) (L : Nat) (Q : kx_Rs → wS → Prop) (x2 : Int32) (w : wS) : Prop := kzE E L kt_M534 2 [(0, .ref (w_adr E.2.1 12 0)), (2, .int x2)] [] w Q
def zb_X13_sideDeclarations_p68 (E : zE) (L : Nat) (Q : kx_Rs → wS → Prop) (x2 : Int32) (w : wS) : Prop := (kx_inb x2 (w_n w 12 0 32) = true ∧ zL_X13_sideDeclarations_p2 E L Q (w_a w 12 0 32 (x2).toNatClampNeg) w)
theorem zt_X13_sideDeclarations_p68 {E : zE} {L : Nat} {Q : kx_Rs → wS → Prop} {x2 : Int32} {w : wS} (hL : 22 ≤ L) (h : zb_X13_sideDeclarations_p68 E L Q x2 w) : kzE E L kt_M534 68 [(0, .ref (w_adr E.2.1 12 0)), (2, .int x2)] [] w Q := by
  unfold zb_X13_sideDeclarations_p68 at h
  refine kz_aload_n (M := kt_M534) kX13_sideDeclarations_c4.2.2.2.2.2.2.2.1 rfl ?_
  refine kz_gfc (M := kt_M534) (x := 4104) (c := 12) (o := 0) kX13_sideDeclarations_c5.1 wf_X13_205 (.inl rfl) ?_
  refine kz_iload_n (M := kt_M534) kX13_sideDeclarations_c5.2.1 rfl ?_
  refine kz_iald (M := kt_M534) (c := 12) (o := 0) (k := 32) (a := (E.2.1 4104)) kX13_sideDeclarations_c5.2.2.1 ow_12_0_32 oa_12_0_32 ot_0 h (fun h => ?_)
  refine kz_sti_n (M := kt_M534) [(0, .ref (w_adr E.2.1 12 0))] kX13_sideDeclarations_c5.2.2.2.1 (Nat.le_of_ble_eq_true rfl) ⟨⟨rfl, rfl, .inl rfl⟩, trivial⟩ rfl ?_
  refine kz_goto (M := kt_M534) kX13_sideDeclarations_c5.2.2.2.2.1 (t := 2) rfl ?_
  exact kz_weak [(0, .ref (w_adr E.2.1 12 0)), (2, .int (w_a w 12 0 32 (x2).toNatClampNeg))] ⟨rfl, ⟨rfl, trivial⟩⟩ rfl h
def zb_X13_sideDeclarations_p49 (E : zE) (L : Nat) (Q : kx_Rs → wS → Prop) (x2 : Int32) (w : wS) : Prop := (kx_inb x2 (w_n w 12 0 29) = true ∧ (if w_a w 12 0 29 (x2).toNatClampNeg < 0 then zb_X13_sideDeclarations_p68 E L Q x2 w else (kx_inb x2 (w_n w 12 0 29) = true ∧ zw E (L - 21) kt_M533 [.ref (w_adr E.2.1 12 0), .int (w_a w 12 0 29 (x2).toNatClampNeg)] w (wk0 (fun w1 => wle w w1 → zb_X13_sideDeclarations_p68 E L Q x2 w1) (fun e w => Q (.inr e) w)))))
theorem zt_X13_sideDeclarations_p49 {E : zE} {L : Nat} {Q : kx_Rs → wS → Prop} {x2 : Int32} {w : wS} (hL : 22 ≤ L) (h : zb_X13_sideDeclarations_p49 E L Q x2 w) : kzE E L kt_M534 49 [(0, .ref (w_adr E.2.1 12 0)), (2, .int x2)] [] w Q := by
  unfold zb_X13_sideDeclarations_p49 at h
  refine kz_aload_n (M := kt_M534) kX13_sideDeclarations_c3.2.2.2.2.1 rfl ?_
  refine kz_gfc (M := kt_M534) (x := 4101) (c := 12) (o := 0) kX13_sideDeclarations_c3.2.2.2.2.2.1 wf_X13_196 (.inl rfl) ?_
  refine kz_iload_n (M := kt_M534) kX13_sideDeclarations_c3.2.2.2.2.2.2.1 rfl ?_
  refine kz_iald (M := kt_M534) (c := 12) (o := 0) (k := 29) (a := (E.2.1 4101)) kX13_sideDeclarations_c3.2.2.2.2.2.2.2.1 ow_12_0_29 oa_12_0_29 ot_0 h (fun h => ?_)
  refine kz_if_lt (M := kt_M534) kX13_sideDeclarations_c4.1 (t := 68) rfl h (fun h => ?_) (fun h => ?_)
  · skip
    exact kz_weak [(0, .ref (w_adr E.2.1 12 0)), (2, .int x2)] ⟨rfl, ⟨rfl, trivial⟩⟩ rfl (zt_X13_sideDeclarations_p68 hL  h)
  · skip
    refine kz_aload_n (M := kt_M534) kX13_sideDeclarations_c4.2.1 rfl ?_
    refine kz_aload_n (M := kt_M534) kX13_sideDeclarations_c4.2.2.1 rfl ?_
    refine kz_gfc (M := kt_M534) (x := 4101) (c := 12) (o := 0) kX13_sideDeclarations_c4.2.2.2.1 wf_X13_196 (.inl rfl) ?_
    refine kz_iload_n (M := kt_M534) kX13_sideDeclarations_c4.2.2.2.2.1 rfl ?_
    refine kz_iald (M := kt_M534) (c := 12) (o := 0) (k := 29) (a := (E.2.1 4101)) kX13_sideDeclarations_c4.2.2.2.2.2.1 ow_12_0_29 oa_12_0_29 ot_0 h (fun h => ?_)
    refine kz_cv0 (M := kt_M534) (c := 12) (o := 0) (As := [.int (w_a w 12 0 29 (x2).toNatClampNeg)]) (rest := []) kX13_sideDeclarations_c4.2.2.2.2.2.2.1 wl_X13_1108 wMv_533 rfl (.inl rfl) rfl (Nat.le_trans (Nat.le_of_ble_eq_true rfl) hL) (Nat.le_of_ble_eq_true rfl) (Nat.le_of_ble_eq_true rfl) h (fun w1 hle h => ?_) (fun _ _ _ h => kzx_no rfl h)
    have h := h hle
    exact kz_weak [(0, .ref (w_adr E.2.1 12 0)), (2, .int x2)] ⟨rfl, ⟨rfl, trivial⟩⟩ rfl (zt_X13_sideDeclarations_p68 hL  h)
def zb_X13_sideDeclarations_p27 (E : zE) (L : Nat) (Q : kx_Rs → wS → Prop) (x2 : Int32) (w : wS) : Prop := (kx_inb x2 (w_n w 12 0 26) = true ∧ (if w_a w 12 0 26 (x2).toNatClampNeg = 37 then zb_X13_sideDeclarations_p49 E L Q x2 w else (kx_inb x2 (w_n w 12 0 26) = true ∧ (if ¬ w_a w 12 0 26 (x2).toNatClampNeg = 38 then zb_X13_sideDeclarations_p68 E L Q x2 w else zb_X13_sideDeclarations_p49 E L Q x2 w))))
theorem zt_X13_sideDeclarations_p27 {E : zE} {L : Nat} {Q : kx_Rs → wS → Prop} {x2 : Int32} {w : wS} (hL : 22 ≤ L) (h : zb_X13_sideDeclarations_p27 E L Q x2 w) : kzE E L kt_M534 27 [(0, .ref (w_adr E.2.1 12 0)), (2, .int x2)] [] w Q := by
  unfold zb_X13_sideDeclarations_p27 at h
  refine kz_aload_n (M := kt_M534) kX13_sideDeclarations_c2.1 rfl ?_
  refine kz_gfc (M := kt_M534) (x := 4098) (c := 12) (o := 0) kX13_sideDeclarations_c2.2.1 wf_X13_187 (.inl rfl) ?_
  refine kz_iload_n (M := kt_M534) kX13_sideDeclarations_c2.2.2.1 rfl ?_
  refine kz_iald (M := kt_M534) (c := 12) (o := 0) (k := 26) (a := (E.2.1 4098)) kX13_sideDeclarations_c2.2.2.2.1 ow_12_0_26 oa_12_0_26 ot_0 h (fun h => ?_)
  refine kz_bi (M := kt_M534) 37 kX13_sideDeclarations_c2.2.2.2.2.1 rfl ?_
  refine kz_icmp_eq (M := kt_M534) kX13_sideDeclarations_c2.2.2.2.2.2.1 (t := 49) rfl h (fun h => ?_) (fun h => ?_)
  · skip
    exact kz_weak [(0, .ref (w_adr E.2.1 12 0)), (2, .int x2)] ⟨rfl, ⟨rfl, trivial⟩⟩ rfl (zt_X13_sideDeclarations_p49 hL  h)
  · skip
    refine kz_aload_n (M := kt_M534) kX13_sideDeclarations_c2.2.2.2.2.2.2.1 rfl ?_
    refine kz_gfc (M := kt_M534) (x := 4098) (c := 12) (o := 0) kX13_sideDeclarations_c2.2.2.2.2.2.2.2.1 wf_X13_187 (.inl rfl) ?_
    refine kz_iload_n (M := kt_M534) kX13_sideDeclarations_c3.1 rfl ?_
    refine kz_iald (M := kt_M534) (c := 12) (o := 0) (k := 26) (a := (E.2.1 4098)) kX13_sideDeclarations_c3.2.1 ow_12_0_26 oa_12_0_26 ot_0 h (fun h => ?_)
    refine kz_bi (M := kt_M534) 38 kX13_sideDeclarations_c3.2.2.1 rfl ?_
    refine kz_icmp_ne (M := kt_M534) kX13_sideDeclarations_c3.2.2.2.1 (t := 68) rfl h (fun h => ?_) (fun h => ?_)
    · skip
      exact kz_weak [(0, .ref (w_adr E.2.1 12 0)), (2, .int x2)] ⟨rfl, ⟨rfl, trivial⟩⟩ rfl (zt_X13_sideDeclarations_p68 hL  h)
    · skip
      exact kz_weak [(0, .ref (w_adr E.2.1 12 0)), (2, .int x2)] ⟨rfl, ⟨rfl, trivial⟩⟩ rfl (zt_X13_sideDeclarations_p49 hL  h)
def zb_X13_sideDeclarations_p2 (E : zE) (L : Nat) (Q : kx_Rs → wS → Prop) (x2 : Int32) (w : wS) : Prop := (if x2 < 0 then Q (.inl none) w else (kx_inb x2 (w_n w 12 0 26) = true ∧ (if ¬ w_a w 12 0 26 (x2).toNatClampNeg = 38 then zb_X13_sideDeclarations_p27 E L Q x2 w else (kx_inb x2 (w_n w 12 0 42) = true ∧ zw E (L - 22) kt_M534 [.ref (w_adr E.2.1 12 0), .int (w_a w 12 0 42 (x2).toNatClampNeg)] w (wk0 (fun w1 => wle w w1 → zb_X13_sideDeclarations_p27 E L Q x2 w1) (fun e w => Q (.inr e) w))))))
theorem zt_X13_sideDeclarations_p2 {E : zE} {L : Nat} {Q : kx_Rs → wS → Prop} {x2 : Int32} {w : wS} (hL : 22 ≤ L) (h : zb_X13_sideDeclarations_p2 E L Q x2 w) : kzE E L kt_M534 2 [(0, .ref (w_adr E.2.1 12 0)), (2, .int x2)] [] w Q := by
  unfold zb_X13_sideDeclarations_p2 at h
  refine kz_iload_n (M := kt_M534) kX13_sideDeclarations_c0.2.2.1 rfl ?_
  refine kz_if_lt (M := kt_M534) kX13_sideDeclarations_c0.2.2.2.1 (t := 78) rfl h (fun h => ?_) (fun h => ?_)
  · skip
    exact kz_ret (M := kt_M534) kX13_sideDeclarations_c5.2.2.2.2.2.1 rfl h
  · skip
    refine kz_aload_n (M := kt_M534) kX13_sideDeclarations_c0.2.2.2.2.1 rfl ?_
    refine kz_gfc (M := kt_M534) (x := 4098) (c := 12) (o := 0) kX13_sideDeclarations_c0.2.2.2.2.2.1 wf_X13_187 (.inl rfl) ?_
    refine kz_iload_n (M := kt_M534) kX13_sideDeclarations_c0.2.2.2.2.2.2.1 rfl ?_
    refine kz_iald (M := kt_M534) (c := 12) (o := 0) (k := 26) (a := (E.2.1 4098)) kX13_sideDeclarations_c0.2.2.2.2.2.2.2.1 ow_12_0_26 oa_12_0_26 ot_0 h (fun h => ?_)
    refine kz_bi (M := kt_M534) 38 kX13_sideDeclarations_c1.1 rfl ?_
    refine kz_icmp_ne (M := kt_M534) kX13_sideDeclarations_c1.2.1 (t := 27) rfl h (fun h => ?_) (fun h => ?_)
    · skip
      exact kz_weak [(0, .ref (w_adr E.2.1 12 0)), (2, .int x2)] ⟨rfl, ⟨rfl, trivial⟩⟩ rfl (zt_X13_sideDeclarations_p27 hL  h)
    · skip
      refine kz_aload_n (M := kt_M534) kX13_sideDeclarations_c1.2.2.1 rfl ?_
      refine kz_aload_n (M := kt_M534) kX13_sideDeclarations_c1.2.2.2.1 rfl ?_
      refine kz_gfc (M := kt_M534) (x := 4114) (c := 12) (o := 0) kX13_sideDeclarations_c1.2.2.2.2.1 wf_X13_217 (.inl rfl) ?_
      refine kz_iload_n (M := kt_M534) kX13_sideDeclarations_c1.2.2.2.2.2.1 rfl ?_
      refine kz_iald (M := kt_M534) (c := 12) (o := 0) (k := 42) (a := (E.2.1 4114)) kX13_sideDeclarations_c1.2.2.2.2.2.2.1 ow_12_0_42 oa_12_0_42 ot_0 h (fun h => ?_)
      refine kz_cv0 (M := kt_M534) (c := 12) (o := 0) (As := [.int (w_a w 12 0 42 (x2).toNatClampNeg)]) (rest := []) kX13_sideDeclarations_c1.2.2.2.2.2.2.2.1 wl_X13_1102 wMv_534 rfl (.inl rfl) rfl (Nat.le_trans (Nat.le_of_ble_eq_true rfl) hL) (Nat.le_of_ble_eq_true rfl) (Nat.le_of_ble_eq_true rfl) h (fun w1 hle h => ?_) (fun _ _ _ h => kzx_no rfl h)
      have h := h hle
      exact kz_weak [(0, .ref (w_adr E.2.1 12 0)), (2, .int x2)] ⟨rfl, ⟨rfl, trivial⟩⟩ rfl (zt_X13_sideDeclarations_p27 hL  h)
def zb_X13_sideDeclarations_p0 (E : zE) (L : Nat) (Q : kx_Rs → wS → Prop) (x1 : Int32) (w : wS) : Prop := zL_X13_sideDeclarations_p2 E L Q x1 w
theorem zt_X13_sideDeclarations_p0 {E : zE} {L : Nat} {Q : kx_Rs → wS → Prop} {x1 : Int32} {w : wS} (hL : 22 ≤ L) (h : zb_X13_sideDeclarations_p0 E L Q x1 w) : kzE E L kt_M534 0 [(0, .ref (w_adr E.2.1 12 0)), (1, .int x1)] [] w Q := by
  unfold zb_X13_sideDeclarations_p0 at h
  refine kz_iload_n (M := kt_M534) kX13_sideDeclarations_c0.1 rfl ?_
  refine kz_sti_n (M := kt_M534) [(0, .ref (w_adr E.2.1 12 0))] kX13_sideDeclarations_c0.2.1 (Nat.le_of_ble_eq_true rfl) ⟨⟨rfl, rfl, .inl rfl⟩, trivial⟩ rfl ?_
  exact kz_weak [(0, .ref (w_adr E.2.1 12 0)), (2, .int x1)] ⟨rfl, ⟨rfl, trivial⟩⟩ rfl h
def zL_X13_sideAction_p189 (E : zE) (L : Nat) (Q : kx_Rs → wS → Prop) (x2 : Int32) (w : wS) : Prop := kzE E L kt_M532 189 [(0, .ref (w_adr E.2.1 12 0)), (2, .int x2)] [] w Q
def zL_X13_sideAction_p146 (E : zE) (L : Nat) (Q : kx_Rs → wS → Prop) (x2 : Int32) (w : wS) : Prop := kzE E L kt_M532 146 [(0, .ref (w_adr E.2.1 12 0)), (2, .int x2)] [] w Q
def zL_X13_sideAction_p119 (E : zE) (L : Nat) (Q : kx_Rs → wS → Prop) (x2 : Int32) (w : wS) : Prop := kzE E L kt_M532 119 [(0, .ref (w_adr E.2.1 12 0)), (2, .int x2)] [] w Q
def zL_X13_sideAction_p71 (E : zE) (L : Nat) (Q : kx_Rs → wS → Prop) (x2 : Int32) (w : wS) : Prop := kzE E L kt_M532 71 [(0, .ref (w_adr E.2.1 12 0)), (2, .int x2)] [] w Q
def zb_X13_sideAction_p222 (E : zE) (L : Nat) (Q : kx_Rs → wS → Prop) (x2 : Int32) (w : wS) : Prop := (kx_inb x2 (w_n w 12 0 32) = true ∧ zL_X13_sideAction_p189 E L Q (w_a w 12 0 32 (x2).toNatClampNeg) w)
theorem zt_X13_sideAction_p222 {E : zE} {L : Nat} {Q : kx_Rs → wS → Prop} {x2 : Int32} {w : wS} (hL : 24 ≤ L) (h : zb_X13_sideAction_p222 E L Q x2 w) : kzE E L kt_M532 222 [(0, .ref (w_adr E.2.1 12 0)), (2, .int x2)] [] w Q := by
  unfold zb_X13_sideAction_p222 at h
  refine kz_aload_n (M := kt_M532) kX13_sideAction_c12.2.2.2.2.2.2.1 rfl ?_
  refine kz_gfc (M := kt_M532) (x := 4104) (c := 12) (o := 0) kX13_sideAction_c12.2.2.2.2.2.2.2.1 wf_X13_205 (.inl rfl) ?_
  refine kz_iload_n (M := kt_M532) kX13_sideAction_c13.1 rfl ?_
  refine kz_iald (M := kt_M532) (c := 12) (o := 0) (k := 32) (a := (E.2.1 4104)) kX13_sideAction_c13.2.1 ow_12_0_32 oa_12_0_32 ot_0 h (fun h => ?_)
  refine kz_sti_n (M := kt_M532) [(0, .ref (w_adr E.2.1 12 0))] kX13_sideAction_c13.2.2.1 (Nat.le_of_ble_eq_true rfl) ⟨⟨rfl, rfl, .inl rfl⟩, trivial⟩ rfl ?_
  refine kz_goto (M := kt_M532) kX13_sideAction_c13.2.2.2.1 (t := 189) rfl ?_
  exact kz_weak [(0, .ref (w_adr E.2.1 12 0)), (2, .int (w_a w 12 0 32 (x2).toNatClampNeg))] ⟨rfl, ⟨rfl, trivial⟩⟩ rfl h
def zb_X13_sideAction_p189 (E : zE) (L : Nat) (Q : kx_Rs → wS → Prop) (x2 : Int32) (w : wS) : Prop := (if x2 < 0 then Q (.inl none) w else (kx_inb x2 (w_n w 12 0 29) = true ∧ zw E (L - 22) kt_M532 [.ref (w_adr E.2.1 12 0), .int (w_a w 12 0 29 (x2).toNatClampNeg)] w (wk0 (fun w1 => wle w w1 → (kx_inb x2 (w_n w1 12 0 30) = true ∧ (if w_a w1 12 0 30 (x2).toNatClampNeg < 0 then zb_X13_sideAction_p222 E L Q x2 w1 else (kx_inb x2 (w_n w1 12 0 30) = true ∧ zw E (L - 21) kt_M533 [.ref (w_adr E.2.1 12 0), .int (w_a w1 12 0 30 (x2).toNatClampNeg)] w1 (wk0 (fun w3 => wle w1 w3 → zb_X13_sideAction_p222 E L Q x2 w3) (fun e w => Q (.inr e) w)))))) (fun e w => Q (.inr e) w))))
theorem zt_X13_sideAction_p189 {E : zE} {L : Nat} {Q : kx_Rs → wS → Prop} {x2 : Int32} {w : wS} (hL : 24 ≤ L) (h : zb_X13_sideAction_p189 E L Q x2 w) : kzE E L kt_M532 189 [(0, .ref (w_adr E.2.1 12 0)), (2, .int x2)] [] w Q := by
  unfold zb_X13_sideAction_p189 at h
  refine kz_iload_n (M := kt_M532) kX13_sideAction_c10.2.2.2.1 rfl ?_
  refine kz_if_lt (M := kt_M532) kX13_sideAction_c10.2.2.2.2.1 (t := 232) rfl h (fun h => ?_) (fun h => ?_)
  · skip
    exact kz_ret (M := kt_M532) kX13_sideAction_c13.2.2.2.2.1 rfl h
  · skip
    refine kz_aload_n (M := kt_M532) kX13_sideAction_c10.2.2.2.2.2.1 rfl ?_
    refine kz_aload_n (M := kt_M532) kX13_sideAction_c10.2.2.2.2.2.2.1 rfl ?_
    refine kz_gfc (M := kt_M532) (x := 4101) (c := 12) (o := 0) kX13_sideAction_c10.2.2.2.2.2.2.2.1 wf_X13_196 (.inl rfl) ?_
    refine kz_iload_n (M := kt_M532) kX13_sideAction_c11.1 rfl ?_
    refine kz_iald (M := kt_M532) (c := 12) (o := 0) (k := 29) (a := (E.2.1 4101)) kX13_sideAction_c11.2.1 ow_12_0_29 oa_12_0_29 ot_0 h (fun h => ?_)
    refine kz_cv0 (M := kt_M532) (c := 12) (o := 0) (As := [.int (w_a w 12 0 29 (x2).toNatClampNeg)]) (rest := []) kX13_sideAction_c11.2.2.1 wl_X13_1105 wMv_532 rfl (.inl rfl) rfl (Nat.le_trans (Nat.le_of_ble_eq_true rfl) hL) (Nat.le_of_ble_eq_true rfl) (Nat.le_of_ble_eq_true rfl) h (fun w1 hle h => ?_) (fun _ _ _ h => kzx_no rfl h)
    have h := h hle
    refine kz_aload_n (M := kt_M532) kX13_sideAction_c11.2.2.2.1 rfl ?_
    refine kz_gfc (M := kt_M532) (x := 4102) (c := 12) (o := 0) kX13_sideAction_c11.2.2.2.2.1 wf_X13_199 (.inl rfl) ?_
    refine kz_iload_n (M := kt_M532) kX13_sideAction_c11.2.2.2.2.2.1 rfl ?_
    refine kz_iald (M := kt_M532) (c := 12) (o := 0) (k := 30) (a := (E.2.1 4102)) kX13_sideAction_c11.2.2.2.2.2.2.1 ow_12_0_30 oa_12_0_30 ot_0 h (fun h => ?_)
    refine kz_if_lt (M := kt_M532) kX13_sideAction_c11.2.2.2.2.2.2.2.1 (t := 222) rfl h (fun h => ?_) (fun h => ?_)
    · skip
      exact kz_weak [(0, .ref (w_adr E.2.1 12 0)), (2, .int x2)] ⟨rfl, ⟨rfl, trivial⟩⟩ rfl (zt_X13_sideAction_p222 hL  h)
    · skip
      refine kz_aload_n (M := kt_M532) kX13_sideAction_c12.1 rfl ?_
      refine kz_aload_n (M := kt_M532) kX13_sideAction_c12.2.1 rfl ?_
      refine kz_gfc (M := kt_M532) (x := 4102) (c := 12) (o := 0) kX13_sideAction_c12.2.2.1 wf_X13_199 (.inl rfl) ?_
      refine kz_iload_n (M := kt_M532) kX13_sideAction_c12.2.2.2.1 rfl ?_
      refine kz_iald (M := kt_M532) (c := 12) (o := 0) (k := 30) (a := (E.2.1 4102)) kX13_sideAction_c12.2.2.2.2.1 ow_12_0_30 oa_12_0_30 ot_0 h (fun h => ?_)
      refine kz_cv0 (M := kt_M532) (c := 12) (o := 0) (As := [.int (w_a w1 12 0 30 (x2).toNatClampNeg)]) (rest := []) kX13_sideAction_c12.2.2.2.2.2.1 wl_X13_1108 wMv_533 rfl (.inl rfl) rfl (Nat.le_trans (Nat.le_of_ble_eq_true rfl) hL) (Nat.le_of_ble_eq_true rfl) (Nat.le_of_ble_eq_true rfl) h (fun w3 hle h => ?_) (fun _ _ _ h => kzx_no rfl h)
      have h := h hle
      exact kz_weak [(0, .ref (w_adr E.2.1 12 0)), (2, .int x2)] ⟨rfl, ⟨rfl, trivial⟩⟩ rfl (zt_X13_sideAction_p222 hL  h)
def zb_X13_sideAction_p146 (E : zE) (L : Nat) (Q : kx_Rs → wS → Prop) (x2 : Int32) (w : wS) : Prop := (if x2 < 0 then Q (.inl none) w else (kx_inb x2 (w_n w 12 0 29) = true ∧ zw E (L - 21) kt_M533 [.ref (w_adr E.2.1 12 0), .int (w_a w 12 0 29 (x2).toNatClampNeg)] w (wk0 (fun w1 => wle w w1 → (kx_inb x2 (w_n w1 12 0 32) = true ∧ zL_X13_sideAction_p146 E L Q (w_a w1 12 0 32 (x2).toNatClampNeg) w1)) (fun e w => Q (.inr e) w))))
theorem zt_X13_sideAction_p146 {E : zE} {L : Nat} {Q : kx_Rs → wS → Prop} {x2 : Int32} {w : wS} (hL : 24 ≤ L) (h : zb_X13_sideAction_p146 E L Q x2 w) : kzE E L kt_M532 146 [(0, .ref (w_adr E.2.1 12 0)), (2, .int x2)] [] w Q := by
  unfold zb_X13_sideAction_p146 at h
  refine kz_iload_n (M := kt_M532) kX13_sideAction_c7.1 rfl ?_
  refine kz_if_lt (M := kt_M532) kX13_sideAction_c7.2.1 (t := 170) rfl h (fun h => ?_) (fun h => ?_)
  · skip
    exact kz_ret (M := kt_M532) kX13_sideAction_c8.2.2.2.2.2.2.1 rfl h
  · skip
    refine kz_aload_n (M := kt_M532) kX13_sideAction_c7.2.2.1 rfl ?_
    refine kz_aload_n (M := kt_M532) kX13_sideAction_c7.2.2.2.1 rfl ?_
    refine kz_gfc (M := kt_M532) (x := 4101) (c := 12) (o := 0) kX13_sideAction_c7.2.2.2.2.1 wf_X13_196 (.inl rfl) ?_
    refine kz_iload_n (M := kt_M532) kX13_sideAction_c7.2.2.2.2.2.1 rfl ?_
    refine kz_iald (M := kt_M532) (c := 12) (o := 0) (k := 29) (a := (E.2.1 4101)) kX13_sideAction_c7.2.2.2.2.2.2.1 ow_12_0_29 oa_12_0_29 ot_0 h (fun h => ?_)
    refine kz_cv0 (M := kt_M532) (c := 12) (o := 0) (As := [.int (w_a w 12 0 29 (x2).toNatClampNeg)]) (rest := []) kX13_sideAction_c7.2.2.2.2.2.2.2.1 wl_X13_1108 wMv_533 rfl (.inl rfl) rfl (Nat.le_trans (Nat.le_of_ble_eq_true rfl) hL) (Nat.le_of_ble_eq_true rfl) (Nat.le_of_ble_eq_true rfl) h (fun w1 hle h => ?_) (fun _ _ _ h => kzx_no rfl h)
    have h := h hle
    refine kz_aload_n (M := kt_M532) kX13_sideAction_c8.1 rfl ?_
    refine kz_gfc (M := kt_M532) (x := 4104) (c := 12) (o := 0) kX13_sideAction_c8.2.1 wf_X13_205 (.inl rfl) ?_
    refine kz_iload_n (M := kt_M532) kX13_sideAction_c8.2.2.1 rfl ?_
    refine kz_iald (M := kt_M532) (c := 12) (o := 0) (k := 32) (a := (E.2.1 4104)) kX13_sideAction_c8.2.2.2.1 ow_12_0_32 oa_12_0_32 ot_0 h (fun h => ?_)
    refine kz_sti_n (M := kt_M532) [(0, .ref (w_adr E.2.1 12 0))] kX13_sideAction_c8.2.2.2.2.1 (Nat.le_of_ble_eq_true rfl) ⟨⟨rfl, rfl, .inl rfl⟩, trivial⟩ rfl ?_
    refine kz_goto (M := kt_M532) kX13_sideAction_c8.2.2.2.2.2.1 (t := 146) rfl ?_
    exact kz_weak [(0, .ref (w_adr E.2.1 12 0)), (2, .int (w_a w1 12 0 32 (x2).toNatClampNeg))] ⟨rfl, ⟨rfl, trivial⟩⟩ rfl h
def zb_X13_sideAction_p119 (E : zE) (L : Nat) (Q : kx_Rs → wS → Prop) (x2 : Int32) (w : wS) : Prop := (if x2 < 0 then Q (.inl none) w else zw E (L - 21) kt_M533 [.ref (w_adr E.2.1 12 0), .int x2] w (wk0 (fun w1 => wle w w1 → (kx_inb x2 (w_n w1 12 0 32) = true ∧ zL_X13_sideAction_p119 E L Q (w_a w1 12 0 32 (x2).toNatClampNeg) w1)) (fun e w => Q (.inr e) w)))
theorem zt_X13_sideAction_p119 {E : zE} {L : Nat} {Q : kx_Rs → wS → Prop} {x2 : Int32} {w : wS} (hL : 24 ≤ L) (h : zb_X13_sideAction_p119 E L Q x2 w) : kzE E L kt_M532 119 [(0, .ref (w_adr E.2.1 12 0)), (2, .int x2)] [] w Q := by
  unfold zb_X13_sideAction_p119 at h
  refine kz_iload_n (M := kt_M532) kX13_sideAction_c4.2.2.2.2.2.2.2.1 rfl ?_
  refine kz_if_lt (M := kt_M532) kX13_sideAction_c5.1 (t := 138) rfl h (fun h => ?_) (fun h => ?_)
  · skip
    exact kz_ret (M := kt_M532) kX13_sideAction_c6.2.2.1 rfl h
  · skip
    refine kz_aload_n (M := kt_M532) kX13_sideAction_c5.2.1 rfl ?_
    refine kz_iload_n (M := kt_M532) kX13_sideAction_c5.2.2.1 rfl ?_
    refine kz_cv0 (M := kt_M532) (c := 12) (o := 0) (As := [.int x2]) (rest := []) kX13_sideAction_c5.2.2.2.1 wl_X13_1108 wMv_533 rfl (.inl rfl) rfl (Nat.le_trans (Nat.le_of_ble_eq_true rfl) hL) (Nat.le_of_ble_eq_true rfl) (Nat.le_of_ble_eq_true rfl) h (fun w1 hle h => ?_) (fun _ _ _ h => kzx_no rfl h)
    have h := h hle
    refine kz_aload_n (M := kt_M532) kX13_sideAction_c5.2.2.2.2.1 rfl ?_
    refine kz_gfc (M := kt_M532) (x := 4104) (c := 12) (o := 0) kX13_sideAction_c5.2.2.2.2.2.1 wf_X13_205 (.inl rfl) ?_
    refine kz_iload_n (M := kt_M532) kX13_sideAction_c5.2.2.2.2.2.2.1 rfl ?_
    refine kz_iald (M := kt_M532) (c := 12) (o := 0) (k := 32) (a := (E.2.1 4104)) kX13_sideAction_c5.2.2.2.2.2.2.2.1 ow_12_0_32 oa_12_0_32 ot_0 h (fun h => ?_)
    refine kz_sti_n (M := kt_M532) [(0, .ref (w_adr E.2.1 12 0))] kX13_sideAction_c6.1 (Nat.le_of_ble_eq_true rfl) ⟨⟨rfl, rfl, .inl rfl⟩, trivial⟩ rfl ?_
    refine kz_goto (M := kt_M532) kX13_sideAction_c6.2.1 (t := 119) rfl ?_
    exact kz_weak [(0, .ref (w_adr E.2.1 12 0)), (2, .int (w_a w1 12 0 32 (x2).toNatClampNeg))] ⟨rfl, ⟨rfl, trivial⟩⟩ rfl h
def zb_X13_sideAction_p112 (E : zE) (L : Nat) (Q : kx_Rs → wS → Prop) (x1 : Int32) (w : wS) : Prop := (kx_inb x1 (w_n w 12 0 29) = true ∧ zL_X13_sideAction_p119 E L Q (w_a w 12 0 29 (x1).toNatClampNeg) w)
theorem zt_X13_sideAction_p112 {E : zE} {L : Nat} {Q : kx_Rs → wS → Prop} {x1 : Int32} {w : wS} (hL : 24 ≤ L) (h : zb_X13_sideAction_p112 E L Q x1 w) : kzE E L kt_M532 112 [(0, .ref (w_adr E.2.1 12 0)), (1, .int x1)] [] w Q := by
  unfold zb_X13_sideAction_p112 at h
  refine kz_aload_n (M := kt_M532) kX13_sideAction_c4.2.2.1 rfl ?_
  refine kz_gfc (M := kt_M532) (x := 4101) (c := 12) (o := 0) kX13_sideAction_c4.2.2.2.1 wf_X13_196 (.inl rfl) ?_
  refine kz_iload_n (M := kt_M532) kX13_sideAction_c4.2.2.2.2.1 rfl ?_
  refine kz_iald (M := kt_M532) (c := 12) (o := 0) (k := 29) (a := (E.2.1 4101)) kX13_sideAction_c4.2.2.2.2.2.1 ow_12_0_29 oa_12_0_29 ot_0 h (fun h => ?_)
  refine kz_sti_n (M := kt_M532) [(0, .ref (w_adr E.2.1 12 0))] kX13_sideAction_c4.2.2.2.2.2.2.1 (Nat.le_of_ble_eq_true rfl) ⟨⟨rfl, rfl, .inl rfl⟩, trivial⟩ rfl ?_
  exact kz_weak [(0, .ref (w_adr E.2.1 12 0)), (2, .int (w_a w 12 0 29 (x1).toNatClampNeg))] ⟨rfl, ⟨rfl, trivial⟩⟩ rfl h
def zb_X13_sideAction_p71 (E : zE) (L : Nat) (Q : kx_Rs → wS → Prop) (x2 : Int32) (w : wS) : Prop := (if x2 < 0 then Q (.inl none) w else (kx_inb x2 (w_n w 12 0 30) = true ∧ zw E (L - 21) kt_M533 [.ref (w_adr E.2.1 12 0), .int (w_a w 12 0 30 (x2).toNatClampNeg)] w (wk0 (fun w1 => wle w w1 → (kx_inb x2 (w_n w1 12 0 32) = true ∧ zL_X13_sideAction_p71 E L Q (w_a w1 12 0 32 (x2).toNatClampNeg) w1)) (fun e w => Q (.inr e) w))))
theorem zt_X13_sideAction_p71 {E : zE} {L : Nat} {Q : kx_Rs → wS → Prop} {x2 : Int32} {w : wS} (hL : 24 ≤ L) (h : zb_X13_sideAction_p71 E L Q x2 w) : kzE E L kt_M532 71 [(0, .ref (w_adr E.2.1 12 0)), (2, .int x2)] [] w Q := by
  unfold zb_X13_sideAction_p71 at h
  refine kz_iload_n (M := kt_M532) kX13_sideAction_c1.2.2.1 rfl ?_
  refine kz_if_lt (M := kt_M532) kX13_sideAction_c1.2.2.2.1 (t := 95) rfl h (fun h => ?_) (fun h => ?_)
  · skip
    exact kz_ret (M := kt_M532) kX13_sideAction_c3.1 rfl h
  · skip
    refine kz_aload_n (M := kt_M532) kX13_sideAction_c1.2.2.2.2.1 rfl ?_
    refine kz_aload_n (M := kt_M532) kX13_sideAction_c1.2.2.2.2.2.1 rfl ?_
    refine kz_gfc (M := kt_M532) (x := 4102) (c := 12) (o := 0) kX13_sideAction_c1.2.2.2.2.2.2.1 wf_X13_199 (.inl rfl) ?_
    refine kz_iload_n (M := kt_M532) kX13_sideAction_c1.2.2.2.2.2.2.2.1 rfl ?_
    refine kz_iald (M := kt_M532) (c := 12) (o := 0) (k := 30) (a := (E.2.1 4102)) kX13_sideAction_c2.1 ow_12_0_30 oa_12_0_30 ot_0 h (fun h => ?_)
    refine kz_cv0 (M := kt_M532) (c := 12) (o := 0) (As := [.int (w_a w 12 0 30 (x2).toNatClampNeg)]) (rest := []) kX13_sideAction_c2.2.1 wl_X13_1108 wMv_533 rfl (.inl rfl) rfl (Nat.le_trans (Nat.le_of_ble_eq_true rfl) hL) (Nat.le_of_ble_eq_true rfl) (Nat.le_of_ble_eq_true rfl) h (fun w1 hle h => ?_) (fun _ _ _ h => kzx_no rfl h)
    have h := h hle
    refine kz_aload_n (M := kt_M532) kX13_sideAction_c2.2.2.1 rfl ?_
    refine kz_gfc (M := kt_M532) (x := 4104) (c := 12) (o := 0) kX13_sideAction_c2.2.2.2.1 wf_X13_205 (.inl rfl) ?_
    refine kz_iload_n (M := kt_M532) kX13_sideAction_c2.2.2.2.2.1 rfl ?_
    refine kz_iald (M := kt_M532) (c := 12) (o := 0) (k := 32) (a := (E.2.1 4104)) kX13_sideAction_c2.2.2.2.2.2.1 ow_12_0_32 oa_12_0_32 ot_0 h (fun h => ?_)
    refine kz_sti_n (M := kt_M532) [(0, .ref (w_adr E.2.1 12 0))] kX13_sideAction_c2.2.2.2.2.2.2.1 (Nat.le_of_ble_eq_true rfl) ⟨⟨rfl, rfl, .inl rfl⟩, trivial⟩ rfl ?_
    refine kz_goto (M := kt_M532) kX13_sideAction_c2.2.2.2.2.2.2.2.1 (t := 71) rfl ?_
    exact kz_weak [(0, .ref (w_adr E.2.1 12 0)), (2, .int (w_a w1 12 0 32 (x2).toNatClampNeg))] ⟨rfl, ⟨rfl, trivial⟩⟩ rfl h
def zb_X13_sideAction_p0 (E : zE) (L : Nat) (Q : kx_Rs → wS → Prop) (x1 : Int32) (w : wS) : Prop := (kx_inb x1 (w_n w 12 0 26) = true ∧ (if w_a w 12 0 26 (x1).toNatClampNeg = 7 then (kx_inb x1 (w_n w 12 0 29) = true ∧ zL_X13_sideAction_p71 E L Q (w_a w 12 0 29 (x1).toNatClampNeg) w) else (if w_a w 12 0 26 (x1).toNatClampNeg = 10 then (kx_inb x1 (w_n w 12 0 26) = true ∧ (if ¬ w_a w 12 0 26 (x1).toNatClampNeg = 11 then zb_X13_sideAction_p112 E L Q x1 w else zw E (L - 24) kt_M535 [.ref (w_adr E.2.1 12 0), .int x1] w (wk0 (fun w1 => wle w w1 → zb_X13_sideAction_p112 E L Q x1 w1) (fun e w => Q (.inr e) w)))) else (if w_a w 12 0 26 (x1).toNatClampNeg = 11 then (kx_inb x1 (w_n w 12 0 26) = true ∧ (if ¬ w_a w 12 0 26 (x1).toNatClampNeg = 11 then zb_X13_sideAction_p112 E L Q x1 w else zw E (L - 24) kt_M535 [.ref (w_adr E.2.1 12 0), .int x1] w (wk0 (fun w3 => wle w w3 → zb_X13_sideAction_p112 E L Q x1 w3) (fun e w => Q (.inr e) w)))) else (if w_a w 12 0 26 (x1).toNatClampNeg = 12 then (kx_inb x1 (w_n w 12 0 29) = true ∧ zL_X13_sideAction_p146 E L Q (w_a w 12 0 29 (x1).toNatClampNeg) w) else (if w_a w 12 0 26 (x1).toNatClampNeg = 14 then (kx_inb x1 (w_n w 12 0 29) = true ∧ zL_X13_sideAction_p146 E L Q (w_a w 12 0 29 (x1).toNatClampNeg) w) else (if w_a w 12 0 26 (x1).toNatClampNeg = 16 then (kx_inb x1 (w_n w 12 0 29) = true ∧ zw E (L - 21) kt_M533 [.ref (w_adr E.2.1 12 0), .int (w_a w 12 0 29 (x1).toNatClampNeg)] w (wk0 (fun w5 => wle w w5 → Q (.inl none) w5) (fun e w => Q (.inr e) w))) else (if w_a w 12 0 26 (x1).toNatClampNeg = 17 then (kx_inb x1 (w_n w 12 0 29) = true ∧ zL_X13_sideAction_p189 E L Q (w_a w 12 0 29 (x1).toNatClampNeg) w) else Q (.inl none) w))))))))
theorem zt_X13_sideAction_p0 {E : zE} {L : Nat} {Q : kx_Rs → wS → Prop} {x1 : Int32} {w : wS} (hL : 24 ≤ L) (h : zb_X13_sideAction_p0 E L Q x1 w) : kzE E L kt_M532 0 [(0, .ref (w_adr E.2.1 12 0)), (1, .int x1)] [] w Q := by
  unfold zb_X13_sideAction_p0 at h
  refine kz_aload_n (M := kt_M532) kX13_sideAction_c0.1 rfl ?_
  refine kz_gfc (M := kt_M532) (x := 4098) (c := 12) (o := 0) kX13_sideAction_c0.2.1 wf_X13_187 (.inl rfl) ?_
  refine kz_iload_n (M := kt_M532) kX13_sideAction_c0.2.2.1 rfl ?_
  refine kz_iald (M := kt_M532) (c := 12) (o := 0) (k := 26) (a := (E.2.1 4098)) kX13_sideAction_c0.2.2.2.1 ow_12_0_26 oa_12_0_26 ot_0 h (fun h => ?_)
  refine kz_tsw (M := kt_M532) [(7, 64), (10, 96), (11, 96), (12, 139), (14, 139), (16, 171), (17, 182)] [_, _, _, _, _, _, _] 233 dX13_sideAction_p6 (by decide +kernel) h ⟨fun h => ?_, fun h => ?_, fun h => ?_, fun h => ?_, fun h => ?_, fun h => ?_, fun h => ?_, trivial⟩ (fun h => ?_)
  · skip
    refine kz_aload_n (M := kt_M532) kX13_sideAction_c0.2.2.2.2.2.1 rfl ?_
    refine kz_gfc (M := kt_M532) (x := 4101) (c := 12) (o := 0) kX13_sideAction_c0.2.2.2.2.2.2.1 wf_X13_196 (.inl rfl) ?_
    refine kz_iload_n (M := kt_M532) kX13_sideAction_c0.2.2.2.2.2.2.2.1 rfl ?_
    refine kz_iald (M := kt_M532) (c := 12) (o := 0) (k := 29) (a := (E.2.1 4101)) kX13_sideAction_c1.1 ow_12_0_29 oa_12_0_29 ot_0 h (fun h => ?_)
    refine kz_sti_n (M := kt_M532) [(0, .ref (w_adr E.2.1 12 0))] kX13_sideAction_c1.2.1 (Nat.le_of_ble_eq_true rfl) ⟨⟨rfl, rfl, .inl rfl⟩, trivial⟩ rfl ?_
    exact kz_weak [(0, .ref (w_adr E.2.1 12 0)), (2, .int (w_a w 12 0 29 (x1).toNatClampNeg))] ⟨rfl, ⟨rfl, trivial⟩⟩ rfl h
  · skip
    refine kz_aload_n (M := kt_M532) kX13_sideAction_c3.2.1 rfl ?_
    refine kz_gfc (M := kt_M532) (x := 4098) (c := 12) (o := 0) kX13_sideAction_c3.2.2.1 wf_X13_187 (.inl rfl) ?_
    refine kz_iload_n (M := kt_M532) kX13_sideAction_c3.2.2.2.1 rfl ?_
    refine kz_iald (M := kt_M532) (c := 12) (o := 0) (k := 26) (a := (E.2.1 4098)) kX13_sideAction_c3.2.2.2.2.1 ow_12_0_26 oa_12_0_26 ot_0 h (fun h => ?_)
    refine kz_bi (M := kt_M532) 11 kX13_sideAction_c3.2.2.2.2.2.1 rfl ?_
    refine kz_icmp_ne (M := kt_M532) kX13_sideAction_c3.2.2.2.2.2.2.1 (t := 112) rfl h (fun h => ?_) (fun h => ?_)
    · skip
      exact kz_weak [(0, .ref (w_adr E.2.1 12 0)), (1, .int x1)] ⟨rfl, ⟨rfl, trivial⟩⟩ rfl (zt_X13_sideAction_p112 hL  h)
    · skip
      refine kz_aload_n (M := kt_M532) kX13_sideAction_c3.2.2.2.2.2.2.2.1 rfl ?_
      refine kz_iload_n (M := kt_M532) kX13_sideAction_c4.1 rfl ?_
      refine kz_cv0 (M := kt_M532) (c := 12) (o := 0) (As := [.int x1]) (rest := []) kX13_sideAction_c4.2.1 wl_X13_1111 wMv_535 rfl (.inl rfl) rfl (Nat.le_trans (Nat.le_of_ble_eq_true rfl) hL) (Nat.le_of_ble_eq_true rfl) (Nat.le_of_ble_eq_true rfl) h (fun w1 hle h => ?_) (fun _ _ _ h => kzx_no rfl h)
      have h := h hle
      exact kz_weak [(0, .ref (w_adr E.2.1 12 0)), (1, .int x1)] ⟨rfl, ⟨rfl, trivial⟩⟩ rfl (zt_X13_sideAction_p112 hL  h)
  · skip
    refine kz_aload_n (M := kt_M532) kX13_sideAction_c3.2.1 rfl ?_
    refine kz_gfc (M := kt_M532) (x := 4098) (c := 12) (o := 0) kX13_sideAction_c3.2.2.1 wf_X13_187 (.inl rfl) ?_
    refine kz_iload_n (M := kt_M532) kX13_sideAction_c3.2.2.2.1 rfl ?_
    refine kz_iald (M := kt_M532) (c := 12) (o := 0) (k := 26) (a := (E.2.1 4098)) kX13_sideAction_c3.2.2.2.2.1 ow_12_0_26 oa_12_0_26 ot_0 h (fun h => ?_)
    refine kz_bi (M := kt_M532) 11 kX13_sideAction_c3.2.2.2.2.2.1 rfl ?_
    refine kz_icmp_ne (M := kt_M532) kX13_sideAction_c3.2.2.2.2.2.2.1 (t := 112) rfl h (fun h => ?_) (fun h => ?_)
    · skip
      exact kz_weak [(0, .ref (w_adr E.2.1 12 0)), (1, .int x1)] ⟨rfl, ⟨rfl, trivial⟩⟩ rfl (zt_X13_sideAction_p112 hL  h)
    · skip
      refine kz_aload_n (M := kt_M532) kX13_sideAction_c3.2.2.2.2.2.2.2.1 rfl ?_
      refine kz_iload_n (M := kt_M532) kX13_sideAction_c4.1 rfl ?_
      refine kz_cv0 (M := kt_M532) (c := 12) (o := 0) (As := [.int x1]) (rest := []) kX13_sideAction_c4.2.1 wl_X13_1111 wMv_535 rfl (.inl rfl) rfl (Nat.le_trans (Nat.le_of_ble_eq_true rfl) hL) (Nat.le_of_ble_eq_true rfl) (Nat.le_of_ble_eq_true rfl) h (fun w3 hle h => ?_) (fun _ _ _ h => kzx_no rfl h)
      have h := h hle
      exact kz_weak [(0, .ref (w_adr E.2.1 12 0)), (1, .int x1)] ⟨rfl, ⟨rfl, trivial⟩⟩ rfl (zt_X13_sideAction_p112 hL  h)
  · skip
    refine kz_aload_n (M := kt_M532) kX13_sideAction_c6.2.2.2.1 rfl ?_
    refine kz_gfc (M := kt_M532) (x := 4101) (c := 12) (o := 0) kX13_sideAction_c6.2.2.2.2.1 wf_X13_196 (.inl rfl) ?_
    refine kz_iload_n (M := kt_M532) kX13_sideAction_c6.2.2.2.2.2.1 rfl ?_
    refine kz_iald (M := kt_M532) (c := 12) (o := 0) (k := 29) (a := (E.2.1 4101)) kX13_sideAction_c6.2.2.2.2.2.2.1 ow_12_0_29 oa_12_0_29 ot_0 h (fun h => ?_)
    refine kz_sti_n (M := kt_M532) [(0, .ref (w_adr E.2.1 12 0))] kX13_sideAction_c6.2.2.2.2.2.2.2.1 (Nat.le_of_ble_eq_true rfl) ⟨⟨rfl, rfl, .inl rfl⟩, trivial⟩ rfl ?_
    exact kz_weak [(0, .ref (w_adr E.2.1 12 0)), (2, .int (w_a w 12 0 29 (x1).toNatClampNeg))] ⟨rfl, ⟨rfl, trivial⟩⟩ rfl h
  · skip
    refine kz_aload_n (M := kt_M532) kX13_sideAction_c6.2.2.2.1 rfl ?_
    refine kz_gfc (M := kt_M532) (x := 4101) (c := 12) (o := 0) kX13_sideAction_c6.2.2.2.2.1 wf_X13_196 (.inl rfl) ?_
    refine kz_iload_n (M := kt_M532) kX13_sideAction_c6.2.2.2.2.2.1 rfl ?_
    refine kz_iald (M := kt_M532) (c := 12) (o := 0) (k := 29) (a := (E.2.1 4101)) kX13_sideAction_c6.2.2.2.2.2.2.1 ow_12_0_29 oa_12_0_29 ot_0 h (fun h => ?_)
    refine kz_sti_n (M := kt_M532) [(0, .ref (w_adr E.2.1 12 0))] kX13_sideAction_c6.2.2.2.2.2.2.2.1 (Nat.le_of_ble_eq_true rfl) ⟨⟨rfl, rfl, .inl rfl⟩, trivial⟩ rfl ?_
    exact kz_weak [(0, .ref (w_adr E.2.1 12 0)), (2, .int (w_a w 12 0 29 (x1).toNatClampNeg))] ⟨rfl, ⟨rfl, trivial⟩⟩ rfl h
  · skip
    refine kz_aload_n (M := kt_M532) kX13_sideAction_c8.2.2.2.2.2.2.2.1 rfl ?_
    refine kz_aload_n (M := kt_M532) kX13_sideAction_c9.1 rfl ?_
    refine kz_gfc (M := kt_M532) (x := 4101) (c := 12) (o := 0) kX13_sideAction_c9.2.1 wf_X13_196 (.inl rfl) ?_
    refine kz_iload_n (M := kt_M532) kX13_sideAction_c9.2.2.1 rfl ?_
    refine kz_iald (M := kt_M532) (c := 12) (o := 0) (k := 29) (a := (E.2.1 4101)) kX13_sideAction_c9.2.2.2.1 ow_12_0_29 oa_12_0_29 ot_0 h (fun h => ?_)
    refine kz_cv0 (M := kt_M532) (c := 12) (o := 0) (As := [.int (w_a w 12 0 29 (x1).toNatClampNeg)]) (rest := []) kX13_sideAction_c9.2.2.2.2.1 wl_X13_1108 wMv_533 rfl (.inl rfl) rfl (Nat.le_trans (Nat.le_of_ble_eq_true rfl) hL) (Nat.le_of_ble_eq_true rfl) (Nat.le_of_ble_eq_true rfl) h (fun w5 hle h => ?_) (fun _ _ _ h => kzx_no rfl h)
    have h := h hle
    exact kz_ret (M := kt_M532) kX13_sideAction_c9.2.2.2.2.2.1 rfl h
  · skip
    refine kz_aload_n (M := kt_M532) kX13_sideAction_c9.2.2.2.2.2.2.1 rfl ?_
    refine kz_gfc (M := kt_M532) (x := 4101) (c := 12) (o := 0) kX13_sideAction_c9.2.2.2.2.2.2.2.1 wf_X13_196 (.inl rfl) ?_
    refine kz_iload_n (M := kt_M532) kX13_sideAction_c10.1 rfl ?_
    refine kz_iald (M := kt_M532) (c := 12) (o := 0) (k := 29) (a := (E.2.1 4101)) kX13_sideAction_c10.2.1 ow_12_0_29 oa_12_0_29 ot_0 h (fun h => ?_)
    refine kz_sti_n (M := kt_M532) [(0, .ref (w_adr E.2.1 12 0))] kX13_sideAction_c10.2.2.1 (Nat.le_of_ble_eq_true rfl) ⟨⟨rfl, rfl, .inl rfl⟩, trivial⟩ rfl ?_
    exact kz_weak [(0, .ref (w_adr E.2.1 12 0)), (2, .int (w_a w 12 0 29 (x1).toNatClampNeg))] ⟨rfl, ⟨rfl, trivial⟩⟩ rfl h
  · skip
    exact kz_ret (M := kt_M532) kX13_sideAction_c13.2.2.2.2.2.1 rfl h
def zL_X13_sidePar_p75 (E : zE) (L : Nat) (Q : kx_Rs → wS → Prop) (x1 : Int32) (x2 : Int32) (x3 : Int32) (x4 : Int32) (w : wS) : Prop := kzE E L kt_M535 75 [(0, .ref (w_adr E.2.1 12 0)), (1, .int x1), (2, .int x2), (3, .int x3), (4, .int x4)] [] w Q
def zL_X13_sidePar_p38 (E : zE) (L : Nat) (Q : kx_Rs → wS → Prop) (x3 : Int32) (w : wS) : Prop := kzE E L kt_M535 38 [(0, .ref (w_adr E.2.1 12 0)), (3, .int x3)] [] w Q
def zb_X13_sidePar_p75 (E : zE) (L : Nat) (Q : kx_Rs → wS → Prop) (x1 : Int32) (x2 : Int32) (x3 : Int32) (x4 : Int32) (w : wS) : Prop := (kx_inb x2 (w_n w 12 0 78) = true ∧ (if w_a w 12 0 78 (x2).toNatClampNeg ≤ x4 then (kx_inb x3 (w_n w 12 0 95) = true ∧ Q (.inl none) (ws_a w 12 0 95 (x3).toNatClampNeg (vp_nar .boolean 0))) else (kx_inb x2 (w_n w 12 0 77) = true ∧ (kx_inb x3 (w_n w 12 0 70) = true ∧ (kx_inb x1 (w_n w 12 0 29) = true ∧ zw E (L - 22) kt_M361 [.ref (w_adr E.2.1 12 0), .int (w_a w 12 0 29 (x1).toNatClampNeg)] (ws_a w 12 0 70 (x3).toNatClampNeg ((w_a w 12 0 77 (x2).toNatClampNeg) + x4)) (wk0 (fun w1 => wle (ws_a w 12 0 70 (x3).toNatClampNeg ((w_a w 12 0 77 (x2).toNatClampNeg) + x4)) w1 → zL_X13_sidePar_p75 E L Q x1 x2 x3 (x4 + 1) w1) (fun e w => Q (.inr e) w)))))))
theorem zt_X13_sidePar_p75 {E : zE} {L : Nat} {Q : kx_Rs → wS → Prop} {x1 : Int32} {x2 : Int32} {x3 : Int32} {x4 : Int32} {w : wS} (hL : 22 ≤ L) (h : zb_X13_sidePar_p75 E L Q x1 x2 x3 x4 w) : kzE E L kt_M535 75 [(0, .ref (w_adr E.2.1 12 0)), (1, .int x1), (2, .int x2), (3, .int x3), (4, .int x4)] [] w Q := by
  unfold zb_X13_sidePar_p75 at h
  refine kz_iload (M := kt_M535) kX13_sidePar_c6.1 rfl ?_
  refine kz_aload_n (M := kt_M535) kX13_sidePar_c6.2.1 rfl ?_
  refine kz_gfc (M := kt_M535) (x := 4150) (c := 12) (o := 0) kX13_sidePar_c6.2.2.1 wf_X13_291 (.inl rfl) ?_
  refine kz_iload_n (M := kt_M535) kX13_sidePar_c6.2.2.2.1 rfl ?_
  refine kz_iald (M := kt_M535) (c := 12) (o := 0) (k := 78) (a := (E.2.1 4150)) kX13_sidePar_c6.2.2.2.2.1 ow_12_0_78 oa_12_0_78 ot_0 h (fun h => ?_)
  refine kz_icmp_ge (M := kt_M535) kX13_sidePar_c6.2.2.2.2.2.1 (t := 117) rfl h (fun h => ?_) (fun h => ?_)
  · skip
    refine kz_aload_n (M := kt_M535) kX13_sidePar_c9.1 rfl ?_
    refine kz_gfc (M := kt_M535) (x := 4167) (c := 12) (o := 0) kX13_sidePar_c9.2.1 wf_X13_316 (.inl rfl) ?_
    refine kz_iload_n (M := kt_M535) kX13_sidePar_c9.2.2.1 rfl ?_
    refine kz_ic (M := kt_M535) 0 kX13_sidePar_c9.2.2.2.1 rfl ?_
    refine kz_zast (M := kt_M535) (c := 12) (o := 0) (k := 95) (a := (E.2.1 4167)) kX13_sidePar_c9.2.2.2.2.1 ow_12_0_95 oa_12_0_95 ot_2 h (fun h => ?_)
    exact kz_ret (M := kt_M535) kX13_sidePar_c9.2.2.2.2.2.1 rfl h
  · skip
    refine kz_aload_n (M := kt_M535) kX13_sidePar_c6.2.2.2.2.2.2.1 rfl ?_
    refine kz_gfc (M := kt_M535) (x := 4142) (c := 12) (o := 0) kX13_sidePar_c6.2.2.2.2.2.2.2.1 wf_X13_278 (.inl rfl) ?_
    refine kz_iload_n (M := kt_M535) kX13_sidePar_c7.1 rfl ?_
    refine kz_aload_n (M := kt_M535) kX13_sidePar_c7.2.1 rfl ?_
    refine kz_gfc (M := kt_M535) (x := 4149) (c := 12) (o := 0) kX13_sidePar_c7.2.2.1 wf_X13_288 (.inl rfl) ?_
    refine kz_iload_n (M := kt_M535) kX13_sidePar_c7.2.2.2.1 rfl ?_
    refine kz_iald (M := kt_M535) (c := 12) (o := 0) (k := 77) (a := (E.2.1 4149)) kX13_sidePar_c7.2.2.2.2.1 ow_12_0_77 oa_12_0_77 ot_0 h (fun h => ?_)
    refine kz_iload (M := kt_M535) kX13_sidePar_c7.2.2.2.2.2.1 rfl ?_
    refine kz_iadd (M := kt_M535) kX13_sidePar_c7.2.2.2.2.2.2.1 ?_
    refine kz_iast (M := kt_M535) (c := 12) (o := 0) (k := 70) (a := (E.2.1 4142)) kX13_sidePar_c7.2.2.2.2.2.2.2.1 ow_12_0_70 oa_12_0_70 ot_0 h (fun h => ?_)
    refine kz_aload_n (M := kt_M535) kX13_sidePar_c8.1 rfl ?_
    refine kz_aload_n (M := kt_M535) kX13_sidePar_c8.2.1 rfl ?_
    refine kz_gfc (M := kt_M535) (x := 4101) (c := 12) (o := 0) kX13_sidePar_c8.2.2.1 wf_X13_196 (.inl rfl) ?_
    refine kz_iload_n (M := kt_M535) kX13_sidePar_c8.2.2.2.1 rfl ?_
    refine kz_ialdR (M := kt_M535) (n := w_n w 12 0 29) (c := 12) (o := 0) (k := 29) (a := (E.2.1 4101)) (w_a w 12 0 29 (x1).toNatClampNeg) kX13_sidePar_c8.2.2.2.2.1 ow_12_0_29 oa_12_0_29 ot_0 rd_n_a (rd_a_a rfl) h (fun h => ?_)
    refine kz_cv0 (M := kt_M535) (c := 12) (o := 0) (As := [.int (w_a w 12 0 29 (x1).toNatClampNeg)]) (rest := []) kX13_sidePar_c8.2.2.2.2.2.1 wl_X13_1099 wMv_361 rfl (.inl rfl) rfl (Nat.le_trans (Nat.le_of_ble_eq_true rfl) hL) (Nat.le_of_ble_eq_true rfl) (Nat.le_of_ble_eq_true rfl) h (fun w1 hle h => ?_) (fun _ _ _ h => kzx_no rfl h)
    have h := h hle
    refine kz_inc (M := kt_M535) [(0, .ref (w_adr E.2.1 12 0)), (1, .int x1), (2, .int x2), (3, .int x3)] kX13_sidePar_c8.2.2.2.2.2.2.1 rfl (Nat.le_of_ble_eq_true rfl) ⟨⟨rfl, rfl, .inl rfl⟩, ⟨⟨rfl, rfl, .inl rfl⟩, ⟨⟨rfl, rfl, .inl rfl⟩, ⟨⟨rfl, rfl, .inr rfl⟩, trivial⟩⟩⟩⟩ rfl ?_
    refine kz_goto (M := kt_M535) kX13_sidePar_c8.2.2.2.2.2.2.2.1 (t := 75) rfl ?_
    exact kz_weak [(0, .ref (w_adr E.2.1 12 0)), (1, .int x1), (2, .int x2), (3, .int x3), (4, .int (x4 + 1))] ⟨rfl, ⟨rfl, ⟨rfl, ⟨rfl, ⟨rfl, trivial⟩⟩⟩⟩⟩ rfl h
def zb_X13_sidePar_p38 (E : zE) (L : Nat) (Q : kx_Rs → wS → Prop) (x3 : Int32) (w : wS) : Prop := (if x3 < 0 then Q (.inl none) w else zw E (L - 22) kt_M361 [.ref (w_adr E.2.1 12 0), .int x3] w (wk0 (fun w1 => wle w w1 → (kx_inb x3 (w_n w1 12 0 32) = true ∧ zL_X13_sidePar_p38 E L Q (w_a w1 12 0 32 (x3).toNatClampNeg) w1)) (fun e w => Q (.inr e) w)))
theorem zt_X13_sidePar_p38 {E : zE} {L : Nat} {Q : kx_Rs → wS → Prop} {x3 : Int32} {w : wS} (hL : 22 ≤ L) (h : zb_X13_sidePar_p38 E L Q x3 w) : kzE E L kt_M535 38 [(0, .ref (w_adr E.2.1 12 0)), (3, .int x3)] [] w Q := by
  unfold zb_X13_sidePar_p38 at h
  refine kz_iload_n (M := kt_M535) kX13_sidePar_c3.1 rfl ?_
  refine kz_if_lt (M := kt_M535) kX13_sidePar_c3.2.1 (t := 57) rfl h (fun h => ?_) (fun h => ?_)
  · skip
    exact kz_ret (M := kt_M535) kX13_sidePar_c4.2.2.2.1 rfl h
  · skip
    refine kz_aload_n (M := kt_M535) kX13_sidePar_c3.2.2.1 rfl ?_
    refine kz_iload_n (M := kt_M535) kX13_sidePar_c3.2.2.2.1 rfl ?_
    refine kz_cv0 (M := kt_M535) (c := 12) (o := 0) (As := [.int x3]) (rest := []) kX13_sidePar_c3.2.2.2.2.1 wl_X13_1099 wMv_361 rfl (.inl rfl) rfl (Nat.le_trans (Nat.le_of_ble_eq_true rfl) hL) (Nat.le_of_ble_eq_true rfl) (Nat.le_of_ble_eq_true rfl) h (fun w1 hle h => ?_) (fun _ _ _ h => kzx_no rfl h)
    have h := h hle
    refine kz_aload_n (M := kt_M535) kX13_sidePar_c3.2.2.2.2.2.1 rfl ?_
    refine kz_gfc (M := kt_M535) (x := 4104) (c := 12) (o := 0) kX13_sidePar_c3.2.2.2.2.2.2.1 wf_X13_205 (.inl rfl) ?_
    refine kz_iload_n (M := kt_M535) kX13_sidePar_c3.2.2.2.2.2.2.2.1 rfl ?_
    refine kz_iald (M := kt_M535) (c := 12) (o := 0) (k := 32) (a := (E.2.1 4104)) kX13_sidePar_c4.1 ow_12_0_32 oa_12_0_32 ot_0 h (fun h => ?_)
    refine kz_sti_n (M := kt_M535) [(0, .ref (w_adr E.2.1 12 0))] kX13_sidePar_c4.2.1 (Nat.le_of_ble_eq_true rfl) ⟨⟨rfl, rfl, .inl rfl⟩, trivial⟩ rfl ?_
    refine kz_goto (M := kt_M535) kX13_sidePar_c4.2.2.1 (t := 38) rfl ?_
    exact kz_weak [(0, .ref (w_adr E.2.1 12 0)), (3, .int (w_a w1 12 0 32 (x3).toNatClampNeg))] ⟨rfl, ⟨rfl, trivial⟩⟩ rfl h
def zb_X13_sidePar_p0 (E : zE) (L : Nat) (Q : kx_Rs → wS → Prop) (x1 : Int32) (w : wS) : Prop := (kx_inb x1 (w_n w 12 0 66) = true ∧ (kx_inb x1 (w_n w 12 0 28) = true ∧ (if 0 ≤ w_a w 12 0 28 (x1).toNatClampNeg then (kx_inb (w_a w 12 0 28 (x1).toNatClampNeg) (w_n w 12 0 31) = true ∧ (kx_inb (w_a w 12 0 31 (w_a w 12 0 28 (x1).toNatClampNeg).toNatClampNeg) (w_n w 12 0 95) = true ∧ zL_X13_sidePar_p75 E L Q x1 (w_a w 12 0 28 (x1).toNatClampNeg) (w_a w 12 0 31 (w_a w 12 0 28 (x1).toNatClampNeg).toNatClampNeg) 0 (ws_a (ws_i (ws_i (ws_i w 12 0 86 (-1)) 12 0 87 (w_a w 12 0 66 (x1).toNatClampNeg)) 12 0 104 0) 12 0 95 (w_a w 12 0 31 (w_a w 12 0 28 (x1).toNatClampNeg).toNatClampNeg).toNatClampNeg (vp_nar .boolean 1)))) else (kx_inb x1 (w_n w 12 0 29) = true ∧ zL_X13_sidePar_p38 E L Q (w_a w 12 0 29 (x1).toNatClampNeg) (ws_i (ws_i (ws_i w 12 0 86 (-1)) 12 0 87 (w_a w 12 0 66 (x1).toNatClampNeg)) 12 0 104 0)))))
theorem zt_X13_sidePar_p0 {E : zE} {L : Nat} {Q : kx_Rs → wS → Prop} {x1 : Int32} {w : wS} (hL : 22 ≤ L) (h : zb_X13_sidePar_p0 E L Q x1 w) : kzE E L kt_M535 0 [(0, .ref (w_adr E.2.1 12 0)), (1, .int x1)] [] w Q := by
  unfold zb_X13_sidePar_p0 at h
  refine kz_aload_n (M := kt_M535) kX13_sidePar_c0.1 rfl ?_
  refine kz_ic (M := kt_M535) (-1) kX13_sidePar_c0.2.1 rfl ?_
  refine kz_pfi (M := kt_M535) (c := 12) (o := 0) kX13_sidePar_c0.2.2.1 wq_X13_1001 (.inl rfl) ?_
  refine kz_aload_n (M := kt_M535) kX13_sidePar_c0.2.2.2.1 rfl ?_
  refine kz_aload_n (M := kt_M535) kX13_sidePar_c0.2.2.2.2.1 rfl ?_
  refine kz_gfc (M := kt_M535) (x := 4138) (c := 12) (o := 0) kX13_sidePar_c0.2.2.2.2.2.1 wf_X13_266 (.inl rfl) ?_
  refine kz_iload_n (M := kt_M535) kX13_sidePar_c0.2.2.2.2.2.2.1 rfl ?_
  refine kz_ialdR (M := kt_M535) (n := w_n w 12 0 66) (c := 12) (o := 0) (k := 66) (a := (E.2.1 4138)) (w_a w 12 0 66 (x1).toNatClampNeg) kX13_sidePar_c0.2.2.2.2.2.2.2.1 ow_12_0_66 oa_12_0_66 ot_0 rd_n_i rd_a_i h (fun h => ?_)
  refine kz_pfi (M := kt_M535) (c := 12) (o := 0) kX13_sidePar_c1.1 wq_X13_1011 (.inl rfl) ?_
  refine kz_aload_n (M := kt_M535) kX13_sidePar_c1.2.1 rfl ?_
  refine kz_ic (M := kt_M535) 0 kX13_sidePar_c1.2.2.1 rfl ?_
  refine kz_pfi (M := kt_M535) (c := 12) (o := 0) kX13_sidePar_c1.2.2.2.1 wq_X13_1090 (.inl rfl) ?_
  refine kz_aload_n (M := kt_M535) kX13_sidePar_c1.2.2.2.2.1 rfl ?_
  refine kz_gfc (M := kt_M535) (x := 4100) (c := 12) (o := 0) kX13_sidePar_c1.2.2.2.2.2.1 wf_X13_193 (.inl rfl) ?_
  refine kz_iload_n (M := kt_M535) kX13_sidePar_c1.2.2.2.2.2.2.1 rfl ?_
  refine kz_ialdR (M := kt_M535) (n := w_n w 12 0 28) (c := 12) (o := 0) (k := 28) (a := (E.2.1 4100)) (w_a w 12 0 28 (x1).toNatClampNeg) kX13_sidePar_c1.2.2.2.2.2.2.2.1 ow_12_0_28 oa_12_0_28 ot_0 (rd_n_i.trans (rd_n_i.trans rd_n_i)) (rd_a_i.trans (rd_a_i.trans rd_a_i)) h (fun h => ?_)
  refine kz_sti_n (M := kt_M535) [(0, .ref (w_adr E.2.1 12 0)), (1, .int x1)] kX13_sidePar_c2.1 (Nat.le_of_ble_eq_true rfl) ⟨⟨rfl, rfl, .inl rfl⟩, ⟨⟨rfl, rfl, .inr rfl⟩, trivial⟩⟩ rfl ?_
  refine kz_iload_n (M := kt_M535) kX13_sidePar_c2.2.1 rfl ?_
  refine kz_if_ge (M := kt_M535) kX13_sidePar_c2.2.2.1 (t := 58) rfl h (fun h => ?_) (fun h => ?_)
  · skip
    refine kz_aload_n (M := kt_M535) kX13_sidePar_c4.2.2.2.2.1 rfl ?_
    refine kz_gfc (M := kt_M535) (x := 4103) (c := 12) (o := 0) kX13_sidePar_c4.2.2.2.2.2.1 wf_X13_202 (.inl rfl) ?_
    refine kz_iload_n (M := kt_M535) kX13_sidePar_c4.2.2.2.2.2.2.1 rfl ?_
    refine kz_ialdR (M := kt_M535) (n := w_n w 12 0 31) (c := 12) (o := 0) (k := 31) (a := (E.2.1 4103)) (w_a w 12 0 31 (w_a w 12 0 28 (x1).toNatClampNeg).toNatClampNeg) kX13_sidePar_c4.2.2.2.2.2.2.2.1 ow_12_0_31 oa_12_0_31 ot_0 (rd_n_i.trans (rd_n_i.trans rd_n_i)) (rd_a_i.trans (rd_a_i.trans rd_a_i)) h (fun h => ?_)
    refine kz_sti_n (M := kt_M535) [(0, .ref (w_adr E.2.1 12 0)), (1, .int x1), (2, .int (w_a w 12 0 28 (x1).toNatClampNeg))] kX13_sidePar_c5.1 (Nat.le_of_ble_eq_true rfl) ⟨⟨rfl, rfl, .inl rfl⟩, ⟨⟨rfl, rfl, .inl rfl⟩, ⟨⟨rfl, rfl, .inr rfl⟩, trivial⟩⟩⟩ rfl ?_
    refine kz_aload_n (M := kt_M535) kX13_sidePar_c5.2.1 rfl ?_
    refine kz_gfc (M := kt_M535) (x := 4167) (c := 12) (o := 0) kX13_sidePar_c5.2.2.1 wf_X13_316 (.inl rfl) ?_
    refine kz_iload_n (M := kt_M535) kX13_sidePar_c5.2.2.2.1 rfl ?_
    refine kz_ic (M := kt_M535) 1 kX13_sidePar_c5.2.2.2.2.1 rfl ?_
    refine kz_zastR (M := kt_M535) (n := w_n w 12 0 95) (c := 12) (o := 0) (k := 95) (a := (E.2.1 4167)) kX13_sidePar_c5.2.2.2.2.2.1 ow_12_0_95 oa_12_0_95 ot_2 (rd_n_i.trans (rd_n_i.trans rd_n_i)) h (fun h => ?_)
    refine kz_ic (M := kt_M535) 0 kX13_sidePar_c5.2.2.2.2.2.2.1 rfl ?_
    refine kz_sti (M := kt_M535) [(0, .ref (w_adr E.2.1 12 0)), (1, .int x1), (2, .int (w_a w 12 0 28 (x1).toNatClampNeg)), (3, .int (w_a w 12 0 31 (w_a w 12 0 28 (x1).toNatClampNeg).toNatClampNeg))] kX13_sidePar_c5.2.2.2.2.2.2.2.1 (Nat.le_of_ble_eq_true rfl) ⟨⟨rfl, rfl, .inl rfl⟩, ⟨⟨rfl, rfl, .inl rfl⟩, ⟨⟨rfl, rfl, .inl rfl⟩, ⟨⟨rfl, rfl, .inr rfl⟩, trivial⟩⟩⟩⟩ rfl ?_
    exact kz_weak [(0, .ref (w_adr E.2.1 12 0)), (1, .int x1), (2, .int (w_a w 12 0 28 (x1).toNatClampNeg)), (3, .int (w_a w 12 0 31 (w_a w 12 0 28 (x1).toNatClampNeg).toNatClampNeg)), (4, .int 0)] ⟨rfl, ⟨rfl, ⟨rfl, ⟨rfl, ⟨rfl, trivial⟩⟩⟩⟩⟩ rfl h
  · skip
    refine kz_aload_n (M := kt_M535) kX13_sidePar_c2.2.2.2.1 rfl ?_
    refine kz_gfc (M := kt_M535) (x := 4101) (c := 12) (o := 0) kX13_sidePar_c2.2.2.2.2.1 wf_X13_196 (.inl rfl) ?_
    refine kz_iload_n (M := kt_M535) kX13_sidePar_c2.2.2.2.2.2.1 rfl ?_
    refine kz_ialdR (M := kt_M535) (n := w_n w 12 0 29) (c := 12) (o := 0) (k := 29) (a := (E.2.1 4101)) (w_a w 12 0 29 (x1).toNatClampNeg) kX13_sidePar_c2.2.2.2.2.2.2.1 ow_12_0_29 oa_12_0_29 ot_0 (rd_n_i.trans (rd_n_i.trans rd_n_i)) (rd_a_i.trans (rd_a_i.trans rd_a_i)) h (fun h => ?_)
    refine kz_sti_n (M := kt_M535) [(0, .ref (w_adr E.2.1 12 0))] kX13_sidePar_c2.2.2.2.2.2.2.2.1 (Nat.le_of_ble_eq_true rfl) ⟨⟨rfl, rfl, .inl rfl⟩, trivial⟩ rfl ?_
    exact kz_weak [(0, .ref (w_adr E.2.1 12 0)), (3, .int (w_a w 12 0 29 (x1).toNatClampNeg))] ⟨rfl, ⟨rfl, trivial⟩⟩ rfl h
def zL_X13_branch_p40 (E : zE) (L : Nat) (Q : kx_Rs → wS → Prop) (x2 : Int32) (w : wS) : Prop := kzE E L kt_M361 40 [(0, .ref (w_adr E.2.1 12 0)), (2, .int x2)] [] w Q
def zL_X13_branch_p7 (E : zE) (L : Nat) (Q : kx_Rs → wS → Prop) (x2 : Int32) (w : wS) : Prop := kzE E L kt_M361 7 [(0, .ref (w_adr E.2.1 12 0)), (2, .int x2)] [] w Q
def zb_X13_branch_p40 (E : zE) (L : Nat) (Q : kx_Rs → wS → Prop) (x2 : Int32) (w : wS) : Prop := (if ((4 * (w_i w 12 0 104)) * 4) ≤ x2 then Q (.inl none) w else (kx_inb x2 (w_n w 12 0 107) = true ∧ (kx_inb x2 (w_n w 12 0 109) = true ∧ (kx_inb x2 (w_n w 12 0 107) = true ∧ zL_X13_branch_p40 E L Q (x2 + 1) (ws_b w 12 0 107 (x2).toNatClampNeg ((w_b w 12 0 107 (x2).toNatClampNeg) ||| (w_b w 12 0 109 (x2).toNatClampNeg)))))))
theorem zt_X13_branch_p40 {E : zE} {L : Nat} {Q : kx_Rs → wS → Prop} {x2 : Int32} {w : wS} (hL : 21 ≤ L) (h : zb_X13_branch_p40 E L Q x2 w) : kzE E L kt_M361 40 [(0, .ref (w_adr E.2.1 12 0)), (2, .int x2)] [] w Q := by
  unfold zb_X13_branch_p40 at h
  refine kz_iload_n (M := kt_M361) kX13_branch_c3.2.2.1 rfl ?_
  refine kz_ic (M := kt_M361) 4 kX13_branch_c3.2.2.2.1 rfl ?_
  refine kz_aload_n (M := kt_M361) kX13_branch_c3.2.2.2.2.1 rfl ?_
  refine kz_gfi (M := kt_M361) (c := 12) (o := 0) kX13_branch_c3.2.2.2.2.2.1 wf_X13_1090 (.inl rfl) ?_
  refine kz_imul (M := kt_M361) kX13_branch_c3.2.2.2.2.2.2.1 ?_
  refine kz_ic (M := kt_M361) 4 kX13_branch_c3.2.2.2.2.2.2.2.1 rfl ?_
  refine kz_imul (M := kt_M361) kX13_branch_c4.1 ?_
  refine kz_icmp_ge (M := kt_M361) kX13_branch_c4.2.1 (t := 73) rfl h (fun h => ?_) (fun h => ?_)
  · skip
    exact kz_ret (M := kt_M361) kX13_branch_c5.2.2.2.2.2.2.2.1 rfl h
  · skip
    refine kz_aload_n (M := kt_M361) kX13_branch_c4.2.2.1 rfl ?_
    refine kz_gfc (M := kt_M361) (x := 4179) (c := 12) (o := 0) kX13_branch_c4.2.2.2.1 wf_X13_340 (.inl rfl) ?_
    refine kz_iload_n (M := kt_M361) kX13_branch_c4.2.2.2.2.1 rfl ?_
    refine kz_dup2 (M := kt_M361) kX13_branch_c4.2.2.2.2.2.1 ⟨rfl, rfl⟩ ?_
    refine kz_lald (M := kt_M361) (c := 12) (o := 0) (k := 107) (a := (E.2.1 4179)) kX13_branch_c4.2.2.2.2.2.2.1 ow_12_0_107 oa_12_0_107 ot_3 h (fun h => ?_)
    refine kz_aload_n (M := kt_M361) kX13_branch_c4.2.2.2.2.2.2.2.1 rfl ?_
    refine kz_gfc (M := kt_M361) (x := 4181) (c := 12) (o := 0) kX13_branch_c5.1 wf_X13_346 (.inl rfl) ?_
    refine kz_iload_n (M := kt_M361) kX13_branch_c5.2.1 rfl ?_
    refine kz_lald (M := kt_M361) (c := 12) (o := 0) (k := 109) (a := (E.2.1 4181)) kX13_branch_c5.2.2.1 ow_12_0_109 oa_12_0_109 ot_3 h (fun h => ?_)
    refine kz_lor (M := kt_M361) kX13_branch_c5.2.2.2.1 ?_
    refine kz_last (M := kt_M361) (c := 12) (o := 0) (k := 107) (a := (E.2.1 4179)) kX13_branch_c5.2.2.2.2.1 ow_12_0_107 oa_12_0_107 ot_3 h (fun h => ?_)
    refine kz_inc (M := kt_M361) [(0, .ref (w_adr E.2.1 12 0))] kX13_branch_c5.2.2.2.2.2.1 rfl (Nat.le_of_ble_eq_true rfl) ⟨⟨rfl, rfl, .inl rfl⟩, trivial⟩ rfl ?_
    refine kz_goto (M := kt_M361) kX13_branch_c5.2.2.2.2.2.2.1 (t := 40) rfl ?_
    exact kz_weak [(0, .ref (w_adr E.2.1 12 0)), (2, .int (x2 + 1))] ⟨rfl, ⟨rfl, trivial⟩⟩ rfl h
def zb_X13_branch_p7 (E : zE) (L : Nat) (Q : kx_Rs → wS → Prop) (x2 : Int32) (w : wS) : Prop := (if (4 * (w_i w 12 0 104)) ≤ x2 then zL_X13_branch_p40 E L Q 0 w else (kx_inb x2 (w_n w 12 0 106) = true ∧ (kx_inb x2 (w_n w 12 0 108) = true ∧ (kx_inb x2 (w_n w 12 0 106) = true ∧ zL_X13_branch_p7 E L Q (x2 + 1) (ws_a w 12 0 106 (x2).toNatClampNeg (vp_nar .boolean ((w_a w 12 0 106 (x2).toNatClampNeg) ||| (w_a w 12 0 108 (x2).toNatClampNeg))))))))
theorem zt_X13_branch_p7 {E : zE} {L : Nat} {Q : kx_Rs → wS → Prop} {x2 : Int32} {w : wS} (hL : 21 ≤ L) (h : zb_X13_branch_p7 E L Q x2 w) : kzE E L kt_M361 7 [(0, .ref (w_adr E.2.1 12 0)), (2, .int x2)] [] w Q := by
  unfold zb_X13_branch_p7 at h
  refine kz_iload_n (M := kt_M361) kX13_branch_c0.2.2.2.2.2.1 rfl ?_
  refine kz_ic (M := kt_M361) 4 kX13_branch_c0.2.2.2.2.2.2.1 rfl ?_
  refine kz_aload_n (M := kt_M361) kX13_branch_c0.2.2.2.2.2.2.2.1 rfl ?_
  refine kz_gfi (M := kt_M361) (c := 12) (o := 0) kX13_branch_c1.1 wf_X13_1090 (.inl rfl) ?_
  refine kz_imul (M := kt_M361) kX13_branch_c1.2.1 ?_
  refine kz_icmp_ge (M := kt_M361) kX13_branch_c1.2.2.1 (t := 38) rfl h (fun h => ?_) (fun h => ?_)
  · skip
    refine kz_ic (M := kt_M361) 0 kX13_branch_c3.1 rfl ?_
    refine kz_sti_n (M := kt_M361) [(0, .ref (w_adr E.2.1 12 0))] kX13_branch_c3.2.1 (Nat.le_of_ble_eq_true rfl) ⟨⟨rfl, rfl, .inl rfl⟩, trivial⟩ rfl ?_
    exact kz_weak [(0, .ref (w_adr E.2.1 12 0)), (2, .int 0)] ⟨rfl, ⟨rfl, trivial⟩⟩ rfl h
  · skip
    refine kz_aload_n (M := kt_M361) kX13_branch_c1.2.2.2.1 rfl ?_
    refine kz_gfc (M := kt_M361) (x := 4178) (c := 12) (o := 0) kX13_branch_c1.2.2.2.2.1 wf_X13_337 (.inl rfl) ?_
    refine kz_iload_n (M := kt_M361) kX13_branch_c1.2.2.2.2.2.1 rfl ?_
    refine kz_dup2 (M := kt_M361) kX13_branch_c1.2.2.2.2.2.2.1 ⟨rfl, rfl⟩ ?_
    refine kz_zald (M := kt_M361) (c := 12) (o := 0) (k := 106) (a := (E.2.1 4178)) kX13_branch_c1.2.2.2.2.2.2.2.1 ow_12_0_106 oa_12_0_106 ot_2 h (fun h => ?_)
    refine kz_aload_n (M := kt_M361) kX13_branch_c2.1 rfl ?_
    refine kz_gfc (M := kt_M361) (x := 4180) (c := 12) (o := 0) kX13_branch_c2.2.1 wf_X13_343 (.inl rfl) ?_
    refine kz_iload_n (M := kt_M361) kX13_branch_c2.2.2.1 rfl ?_
    refine kz_zald (M := kt_M361) (c := 12) (o := 0) (k := 108) (a := (E.2.1 4180)) kX13_branch_c2.2.2.2.1 ow_12_0_108 oa_12_0_108 ot_2 h (fun h => ?_)
    refine kz_ior (M := kt_M361) kX13_branch_c2.2.2.2.2.1 ?_
    refine kz_zast (M := kt_M361) (c := 12) (o := 0) (k := 106) (a := (E.2.1 4178)) kX13_branch_c2.2.2.2.2.2.1 ow_12_0_106 oa_12_0_106 ot_2 h (fun h => ?_)
    refine kz_inc (M := kt_M361) [(0, .ref (w_adr E.2.1 12 0))] kX13_branch_c2.2.2.2.2.2.2.1 rfl (Nat.le_of_ble_eq_true rfl) ⟨⟨rfl, rfl, .inl rfl⟩, trivial⟩ rfl ?_
    refine kz_goto (M := kt_M361) kX13_branch_c2.2.2.2.2.2.2.2.1 (t := 7) rfl ?_
    exact kz_weak [(0, .ref (w_adr E.2.1 12 0)), (2, .int (x2 + 1))] ⟨rfl, ⟨rfl, trivial⟩⟩ rfl h
def zb_X13_branch_p0 (E : zE) (L : Nat) (Q : kx_Rs → wS → Prop) (x1 : Int32) (w : wS) : Prop := zw E (L - 21) kt_M589 [.ref (w_adr E.2.1 12 0), .int x1] w (wk0 (fun w1 => wle w w1 → zL_X13_branch_p7 E L Q 0 w1) (fun e w => Q (.inr e) w))
theorem zt_X13_branch_p0 {E : zE} {L : Nat} {Q : kx_Rs → wS → Prop} {x1 : Int32} {w : wS} (hL : 21 ≤ L) (h : zb_X13_branch_p0 E L Q x1 w) : kzE E L kt_M361 0 [(0, .ref (w_adr E.2.1 12 0)), (1, .int x1)] [] w Q := by
  unfold zb_X13_branch_p0 at h
  refine kz_aload_n (M := kt_M361) kX13_branch_c0.1 rfl ?_
  refine kz_iload_n (M := kt_M361) kX13_branch_c0.2.1 rfl ?_
  refine kz_cv0 (M := kt_M361) (c := 12) (o := 0) (As := [.int x1]) (rest := []) kX13_branch_c0.2.2.1 wl_X13_1052 wMv_589 rfl (.inl rfl) rfl (Nat.le_trans (Nat.le_of_ble_eq_true rfl) hL) (Nat.le_of_ble_eq_true rfl) (Nat.le_of_ble_eq_true rfl) h (fun w1 hle h => ?_) (fun _ _ _ h => kzx_no rfl h)
  have h := h hle
  refine kz_ic (M := kt_M361) 0 kX13_branch_c0.2.2.2.1 rfl ?_
  refine kz_sti_n (M := kt_M361) [(0, .ref (w_adr E.2.1 12 0))] kX13_branch_c0.2.2.2.2.1 (Nat.le_of_ble_eq_true rfl) ⟨⟨rfl, rfl, .inl rfl⟩, trivial⟩ rfl ?_
  exact kz_weak [(0, .ref (w_adr E.2.1 12 0)), (2, .int 0)] ⟨rfl, ⟨rfl, trivial⟩⟩ rfl h
def zL_X13_begin_p192 (E : zE) (L : Nat) (Q : kx_Rs → wS → Prop) (x2 : Int32) (w : wS) : Prop := kzE E L kt_M358 192 [(0, .ref (w_adr E.2.1 12 0)), (2, .int x2)] [] w Q
def zL_X13_begin_p141 (E : zE) (L : Nat) (Q : kx_Rs → wS → Prop) (x2 : Int32) (w : wS) : Prop := kzE E L kt_M358 141 [(0, .ref (w_adr E.2.1 12 0)), (2, .int x2)] [] w Q
def zb_X13_begin_p192 (E : zE) (L : Nat) (Q : kx_Rs → wS → Prop) (x2 : Int32) (w : wS) : Prop := (if w_i w 12 0 22 ≤ x2 then zw E (L - 23) kt_M490 [.ref (w_adr E.2.1 12 0), .int 0, .int (-1)] w (wk1 (fun v2 w1 => wle w w1 → zw E (L - 22) kt_M367 [.ref (w_adr E.2.1 12 0), .int v2, .int 0] w1 (wk1 (fun v4 w3 => wle w1 w3 → zw E (L - 22) kt_M547 [.ref (w_adr E.2.1 12 0), .int v4, .int (w_i w3 12 0 139)] w3 (wk0 (fun w5 => wle w3 w5 → zw E (L - 22) kt_M367 [.ref (w_adr E.2.1 12 0), .int v2, .int 1] w5 (wk1 (fun v8 w7 => wle w5 w7 → zw E (L - 22) kt_M547 [.ref (w_adr E.2.1 12 0), .int v8, .int (w_i w7 12 0 140)] w7 (wk0 (fun w9 => wle w7 w9 → zw E (L - 24) kt_M491 [.ref (w_adr E.2.1 12 0), .int (-1), .int v2, .int (w_i w9 12 0 43)] (ws_i w9 12 0 179 v2) (wk1 (fun v12 w11 => wle (ws_i w9 12 0 179 v2) w11 → zw E (L - 21) kt_M460 [.ref (w_adr E.2.1 12 0), .int v12] w11 (wk0 (fun w13 => wle w11 w13 → (kx_inb (w_i w13 12 0 43) (w_n w13 12 0 27) = true ∧ zw E (L - 21) kt_M513 [.ref (w_adr E.2.1 12 0)] (ws_i w13 12 0 164 (w_a w13 12 0 27 (w_i w13 12 0 43).toNatClampNeg)) (wk0 (fun w15 => wle (ws_i w13 12 0 164 (w_a w13 12 0 27 (w_i w13 12 0 43).toNatClampNeg)) w15 → Q (.inl none) w15) (fun e w => Q (.inr e) w)))) (fun e w => Q (.inr e) w))) (fun e w => Q (.inr e) w))) (fun e w => Q (.inr e) w))) (fun e w => Q (.inr e) w))) (fun e w => Q (.inr e) w))) (fun e w => Q (.inr e) w))) (fun e w => Q (.inr e) w)) else (kx_inb x2 (w_n w 12 0 21) = true ∧ (kx_inb ((w_i w 12 0 141) + x2) (w_n w 12 0 111) = true ∧ zL_X13_begin_p192 E L Q (x2 + 1) (ws_a w 12 0 111 (((w_i w 12 0 141) + x2)).toNatClampNeg (w_a w 12 0 21 (x2).toNatClampNeg)))))
theorem zt_X13_begin_p192 {E : zE} {L : Nat} {Q : kx_Rs → wS → Prop} {x2 : Int32} {w : wS} (hL : 24 ≤ L) (h : zb_X13_begin_p192 E L Q x2 w) : kzE E L kt_M358 192 [(0, .ref (w_adr E.2.1 12 0)), (2, .int x2)] [] w Q := by
  unfold zb_X13_begin_p192 at h
  refine kz_iload_n (M := kt_M358) kX13_begin_c13.2.2.2.2.2.2.2.1 rfl ?_
  refine kz_aload_n (M := kt_M358) kX13_begin_c14.1 rfl ?_
  refine kz_gfi (M := kt_M358) (c := 12) (o := 0) kX13_begin_c14.2.1 wf_X13_528 (.inl rfl) ?_
  refine kz_icmp_ge (M := kt_M358) kX13_begin_c14.2.2.1 (t := 223) rfl h (fun h => ?_) (fun h => ?_)
  · skip
    refine kz_aload_n (M := kt_M358) kX13_begin_c16.1 rfl ?_
    refine kz_ic (M := kt_M358) 0 kX13_begin_c16.2.1 rfl ?_
    refine kz_ic (M := kt_M358) (-1) kX13_begin_c16.2.2.1 rfl ?_
    refine kz_cv1 (M := kt_M358) (c := 12) (o := 0) (As := [.int 0, .int (-1)]) (rest := []) kX13_begin_c16.2.2.2.1 wl_X13_1263 wMv_490 rfl (.inl rfl) rfl (Nat.le_trans (Nat.le_of_ble_eq_true rfl) hL) (Nat.le_of_ble_eq_true rfl) (Nat.le_of_ble_eq_true rfl) h (fun v2 w1 hle h => ?_) (fun _ _ _ h => kzx_no rfl h)
    have h := h hle
    refine kz_sti_n (M := kt_M358) [(0, .ref (w_adr E.2.1 12 0))] kX13_begin_c16.2.2.2.2.1 (Nat.le_of_ble_eq_true rfl) ⟨⟨rfl, rfl, .inl rfl⟩, trivial⟩ rfl ?_
    refine kz_aload_n (M := kt_M358) kX13_begin_c16.2.2.2.2.2.1 rfl ?_
    refine kz_aload_n (M := kt_M358) kX13_begin_c16.2.2.2.2.2.2.1 rfl ?_
    refine kz_iload_n (M := kt_M358) kX13_begin_c16.2.2.2.2.2.2.2.1 rfl ?_
    refine kz_ic (M := kt_M358) 0 kX13_begin_c17.1 rfl ?_
    refine kz_cv1 (M := kt_M358) (c := 12) (o := 0) (As := [.int v2, .int 0]) (rest := [.ref (w_adr E.2.1 12 0)]) kX13_begin_c17.2.1 wl_X13_1248 wMv_367 rfl (.inl rfl) rfl (Nat.le_trans (Nat.le_of_ble_eq_true rfl) hL) (Nat.le_of_ble_eq_true rfl) (Nat.le_of_ble_eq_true rfl) h (fun v4 w3 hle h => ?_) (fun _ _ _ h => kzx_no rfl h)
    have h := h hle
    refine kz_aload_n (M := kt_M358) kX13_begin_c17.2.2.1 rfl ?_
    refine kz_gfi (M := kt_M358) (c := 12) (o := 0) kX13_begin_c17.2.2.2.1 wf_X13_1401 (.inl rfl) ?_
    refine kz_cv0 (M := kt_M358) (c := 12) (o := 0) (As := [.int v4, .int (w_i w3 12 0 139)]) (rest := []) kX13_begin_c17.2.2.2.2.1 wl_X13_1140 wMv_547 rfl (.inl rfl) rfl (Nat.le_trans (Nat.le_of_ble_eq_true rfl) hL) (Nat.le_of_ble_eq_true rfl) (Nat.le_of_ble_eq_true rfl) h (fun w5 hle h => ?_) (fun _ _ _ h => kzx_no rfl h)
    have h := h hle
    refine kz_aload_n (M := kt_M358) kX13_begin_c17.2.2.2.2.2.1 rfl ?_
    refine kz_aload_n (M := kt_M358) kX13_begin_c17.2.2.2.2.2.2.1 rfl ?_
    refine kz_iload_n (M := kt_M358) kX13_begin_c17.2.2.2.2.2.2.2.1 rfl ?_
    refine kz_ic (M := kt_M358) 1 kX13_begin_c18.1 rfl ?_
    refine kz_cv1 (M := kt_M358) (c := 12) (o := 0) (As := [.int v2, .int 1]) (rest := [.ref (w_adr E.2.1 12 0)]) kX13_begin_c18.2.1 wl_X13_1248 wMv_367 rfl (.inl rfl) rfl (Nat.le_trans (Nat.le_of_ble_eq_true rfl) hL) (Nat.le_of_ble_eq_true rfl) (Nat.le_of_ble_eq_true rfl) h (fun v8 w7 hle h => ?_) (fun _ _ _ h => kzx_no rfl h)
    have h := h hle
    refine kz_aload_n (M := kt_M358) kX13_begin_c18.2.2.1 rfl ?_
    refine kz_gfi (M := kt_M358) (c := 12) (o := 0) kX13_begin_c18.2.2.2.1 wf_X13_1410 (.inl rfl) ?_
    refine kz_cv0 (M := kt_M358) (c := 12) (o := 0) (As := [.int v8, .int (w_i w7 12 0 140)]) (rest := []) kX13_begin_c18.2.2.2.2.1 wl_X13_1140 wMv_547 rfl (.inl rfl) rfl (Nat.le_trans (Nat.le_of_ble_eq_true rfl) hL) (Nat.le_of_ble_eq_true rfl) (Nat.le_of_ble_eq_true rfl) h (fun w9 hle h => ?_) (fun _ _ _ h => kzx_no rfl h)
    have h := h hle
    refine kz_aload_n (M := kt_M358) kX13_begin_c18.2.2.2.2.2.1 rfl ?_
    refine kz_iload_n (M := kt_M358) kX13_begin_c18.2.2.2.2.2.2.1 rfl ?_
    refine kz_pfi (M := kt_M358) (c := 12) (o := 0) kX13_begin_c18.2.2.2.2.2.2.2.1 wq_X13_1495 (.inl rfl) ?_
    refine kz_aload_n (M := kt_M358) kX13_begin_c19.1 rfl ?_
    refine kz_aload_n (M := kt_M358) kX13_begin_c19.2.1 rfl ?_
    refine kz_ic (M := kt_M358) (-1) kX13_begin_c19.2.2.1 rfl ?_
    refine kz_iload_n (M := kt_M358) kX13_begin_c19.2.2.2.1 rfl ?_
    refine kz_aload_n (M := kt_M358) kX13_begin_c19.2.2.2.2.1 rfl ?_
    refine kz_gfiR (M := kt_M358) (c := 12) (o := 0) (w_i w9 12 0 43) kX13_begin_c19.2.2.2.2.2.1 wf_X13_713 (.inl rfl) (rd_i_i rfl) ?_
    refine kz_cv1 (M := kt_M358) (c := 12) (o := 0) (As := [.int (-1), .int v2, .int (w_i w9 12 0 43)]) (rest := [.ref (w_adr E.2.1 12 0)]) kX13_begin_c19.2.2.2.2.2.2.1 wl_X13_1385 wMv_491 rfl (.inl rfl) rfl (Nat.le_trans (Nat.le_of_ble_eq_true rfl) hL) (Nat.le_of_ble_eq_true rfl) (Nat.le_of_ble_eq_true rfl) h (fun v12 w11 hle h => ?_) (fun _ _ _ h => kzx_no rfl h)
    have h := h hle
    refine kz_cv0 (M := kt_M358) (c := 12) (o := 0) (As := [.int v12]) (rest := []) kX13_begin_c19.2.2.2.2.2.2.2.1 wl_X13_1331 wMv_460 rfl (.inl rfl) rfl (Nat.le_trans (Nat.le_of_ble_eq_true rfl) hL) (Nat.le_of_ble_eq_true rfl) (Nat.le_of_ble_eq_true rfl) h (fun w13 hle h => ?_) (fun _ _ _ h => kzx_no rfl h)
    have h := h hle
    refine kz_aload_n (M := kt_M358) kX13_begin_c20.1 rfl ?_
    refine kz_aload_n (M := kt_M358) kX13_begin_c20.2.1 rfl ?_
    refine kz_gfc (M := kt_M358) (x := 4099) (c := 12) (o := 0) kX13_begin_c20.2.2.1 wf_X13_190 (.inl rfl) ?_
    refine kz_aload_n (M := kt_M358) kX13_begin_c20.2.2.2.1 rfl ?_
    refine kz_gfi (M := kt_M358) (c := 12) (o := 0) kX13_begin_c20.2.2.2.2.1 wf_X13_713 (.inl rfl) ?_
    refine kz_iald (M := kt_M358) (c := 12) (o := 0) (k := 27) (a := (E.2.1 4099)) kX13_begin_c20.2.2.2.2.2.1 ow_12_0_27 oa_12_0_27 ot_0 h (fun h => ?_)
    refine kz_pfi (M := kt_M358) (c := 12) (o := 0) kX13_begin_c20.2.2.2.2.2.2.1 wq_X13_1302 (.inl rfl) ?_
    refine kz_aload_n (M := kt_M358) kX13_begin_c20.2.2.2.2.2.2.2.1 rfl ?_
    refine kz_cv0 (M := kt_M358) (c := 12) (o := 0) (As := []) (rest := []) kX13_begin_c21.1 wl_X13_1334 wMv_513 rfl (.inl rfl) rfl (Nat.le_trans (Nat.le_of_ble_eq_true rfl) hL) (Nat.le_of_ble_eq_true rfl) (Nat.le_of_ble_eq_true rfl) h (fun w15 hle h => ?_) (fun _ _ _ h => kzx_no rfl h)
    have h := h hle
    exact kz_ret (M := kt_M358) kX13_begin_c21.2.1 rfl h
  · skip
    refine kz_aload_n (M := kt_M358) kX13_begin_c14.2.2.2.1 rfl ?_
    refine kz_gfa (M := kt_M358) (c := 12) (o := 0) kX13_begin_c14.2.2.2.2.1 wf_X13_350 (.inl rfl) ?_
    refine kz_aload_n (M := kt_M358) kX13_begin_c14.2.2.2.2.2.1 rfl ?_
    refine kz_gfi (M := kt_M358) (c := 12) (o := 0) kX13_begin_c14.2.2.2.2.2.2.1 wf_X13_1228 (.inl rfl) ?_
    refine kz_iload_n (M := kt_M358) kX13_begin_c14.2.2.2.2.2.2.2.1 rfl ?_
    refine kz_iadd (M := kt_M358) kX13_begin_c15.1 ?_
    refine kz_aload_n (M := kt_M358) kX13_begin_c15.2.1 rfl ?_
    refine kz_gfc (M := kt_M358) (x := 4093) (c := 12) (o := 0) kX13_begin_c15.2.2.1 wf_X13_184 (.inl rfl) ?_
    refine kz_iload_n (M := kt_M358) kX13_begin_c15.2.2.2.1 rfl ?_
    refine kz_iald (M := kt_M358) (c := 12) (o := 0) (k := 21) (a := (E.2.1 4093)) kX13_begin_c15.2.2.2.2.1 ow_12_0_21 oa_12_0_21 ot_0 h (fun h => ?_)
    refine kz_iast (M := kt_M358) (c := 12) (o := 0) (k := 111) (a := (w_d w 12 0 111)) kX13_begin_c15.2.2.2.2.2.1 ow_12_0_111 oa_12_0_111 ot_0 h (fun h => ?_)
    refine kz_inc (M := kt_M358) [(0, .ref (w_adr E.2.1 12 0))] kX13_begin_c15.2.2.2.2.2.2.1 rfl (Nat.le_of_ble_eq_true rfl) ⟨⟨rfl, rfl, .inl rfl⟩, trivial⟩ rfl ?_
    refine kz_goto (M := kt_M358) kX13_begin_c15.2.2.2.2.2.2.2.1 (t := 192) rfl ?_
    exact kz_weak [(0, .ref (w_adr E.2.1 12 0)), (2, .int (x2 + 1))] ⟨rfl, ⟨rfl, trivial⟩⟩ rfl h
def zb_X13_begin_p141 (E : zE) (L : Nat) (Q : kx_Rs → wS → Prop) (x2 : Int32) (w : wS) : Prop := (if 82 ≤ x2 then zw E (L - 23) kt_M419 [.ref (w_adr E.2.1 12 0), .int 1] w (wk1 (fun v2 w1 => wle w w1 → zw E (L - 23) kt_M419 [.ref (w_adr E.2.1 12 0), .int 1] (ws_i w1 12 0 139 v2) (wk1 (fun v4 w3 => wle (ws_i w1 12 0 139 v2) w3 → zw E (L - 23) kt_M419 [.ref (w_adr E.2.1 12 0), .int (w_i w3 12 0 22)] (ws_i w3 12 0 140 v4) (wk1 (fun v6 w5 => wle (ws_i w3 12 0 140 v4) w5 → zL_X13_begin_p192 E L Q 0 (ws_i w5 12 0 141 v6)) (fun e w => Q (.inr e) w))) (fun e w => Q (.inr e) w))) (fun e w => Q (.inr e) w)) else (kx_inb x2 (w_n w 12 0 145) = true ∧ zL_X13_begin_p141 E L Q (x2 + 1) (ws_a w 12 0 145 (x2).toNatClampNeg (vp_nar .boolean 0))))
theorem zt_X13_begin_p141 {E : zE} {L : Nat} {Q : kx_Rs → wS → Prop} {x2 : Int32} {w : wS} (hL : 24 ≤ L) (h : zb_X13_begin_p141 E L Q x2 w) : kzE E L kt_M358 141 [(0, .ref (w_adr E.2.1 12 0)), (2, .int x2)] [] w Q := by
  unfold zb_X13_begin_p141 at h
  refine kz_iload_n (M := kt_M358) kX13_begin_c10.2.2.2.1 rfl ?_
  refine kz_bi (M := kt_M358) 82 kX13_begin_c10.2.2.2.2.1 rfl ?_
  refine kz_icmp_ge (M := kt_M358) kX13_begin_c10.2.2.2.2.2.1 (t := 160) rfl h (fun h => ?_) (fun h => ?_)
  · skip
    refine kz_aload_n (M := kt_M358) kX13_begin_c11.2.2.2.2.2.1 rfl ?_
    refine kz_aload_n (M := kt_M358) kX13_begin_c11.2.2.2.2.2.2.1 rfl ?_
    refine kz_ic (M := kt_M358) 1 kX13_begin_c11.2.2.2.2.2.2.2.1 rfl ?_
    refine kz_cv1 (M := kt_M358) (c := 12) (o := 0) (As := [.int 1]) (rest := [.ref (w_adr E.2.1 12 0)]) kX13_begin_c12.1 wl_X13_1237 wMv_419 rfl (.inl rfl) rfl (Nat.le_trans (Nat.le_of_ble_eq_true rfl) hL) (Nat.le_of_ble_eq_true rfl) (Nat.le_of_ble_eq_true rfl) h (fun v2 w1 hle h => ?_) (fun _ _ _ h => kzx_no rfl h)
    have h := h hle
    refine kz_pfi (M := kt_M358) (c := 12) (o := 0) kX13_begin_c12.2.1 wq_X13_1401 (.inl rfl) ?_
    refine kz_aload_n (M := kt_M358) kX13_begin_c12.2.2.1 rfl ?_
    refine kz_aload_n (M := kt_M358) kX13_begin_c12.2.2.2.1 rfl ?_
    refine kz_ic (M := kt_M358) 1 kX13_begin_c12.2.2.2.2.1 rfl ?_
    refine kz_cv1 (M := kt_M358) (c := 12) (o := 0) (As := [.int 1]) (rest := [.ref (w_adr E.2.1 12 0)]) kX13_begin_c12.2.2.2.2.2.1 wl_X13_1237 wMv_419 rfl (.inl rfl) rfl (Nat.le_trans (Nat.le_of_ble_eq_true rfl) hL) (Nat.le_of_ble_eq_true rfl) (Nat.le_of_ble_eq_true rfl) h (fun v4 w3 hle h => ?_) (fun _ _ _ h => kzx_no rfl h)
    have h := h hle
    refine kz_pfi (M := kt_M358) (c := 12) (o := 0) kX13_begin_c12.2.2.2.2.2.2.1 wq_X13_1410 (.inl rfl) ?_
    refine kz_aload_n (M := kt_M358) kX13_begin_c12.2.2.2.2.2.2.2.1 rfl ?_
    refine kz_aload_n (M := kt_M358) kX13_begin_c13.1 rfl ?_
    refine kz_aload_n (M := kt_M358) kX13_begin_c13.2.1 rfl ?_
    refine kz_gfiR (M := kt_M358) (c := 12) (o := 0) (w_i w3 12 0 22) kX13_begin_c13.2.2.1 wf_X13_528 (.inl rfl) (rd_i_i rfl) ?_
    refine kz_cv1 (M := kt_M358) (c := 12) (o := 0) (As := [.int (w_i w3 12 0 22)]) (rest := [.ref (w_adr E.2.1 12 0)]) kX13_begin_c13.2.2.2.1 wl_X13_1237 wMv_419 rfl (.inl rfl) rfl (Nat.le_trans (Nat.le_of_ble_eq_true rfl) hL) (Nat.le_of_ble_eq_true rfl) (Nat.le_of_ble_eq_true rfl) h (fun v6 w5 hle h => ?_) (fun _ _ _ h => kzx_no rfl h)
    have h := h hle
    refine kz_pfi (M := kt_M358) (c := 12) (o := 0) kX13_begin_c13.2.2.2.2.1 wq_X13_1228 (.inl rfl) ?_
    refine kz_ic (M := kt_M358) 0 kX13_begin_c13.2.2.2.2.2.1 rfl ?_
    refine kz_sti_n (M := kt_M358) [(0, .ref (w_adr E.2.1 12 0))] kX13_begin_c13.2.2.2.2.2.2.1 (Nat.le_of_ble_eq_true rfl) ⟨⟨rfl, rfl, .inl rfl⟩, trivial⟩ rfl ?_
    exact kz_weak [(0, .ref (w_adr E.2.1 12 0)), (2, .int 0)] ⟨rfl, ⟨rfl, trivial⟩⟩ rfl h
  · skip
    refine kz_aload_n (M := kt_M358) kX13_begin_c10.2.2.2.2.2.2.1 rfl ?_
    refine kz_gfc (M := kt_M358) (x := 4217) (c := 12) (o := 0) kX13_begin_c10.2.2.2.2.2.2.2.1 wf_X13_388 (.inl rfl) ?_
    refine kz_iload_n (M := kt_M358) kX13_begin_c11.1 rfl ?_
    refine kz_ic (M := kt_M358) 0 kX13_begin_c11.2.1 rfl ?_
    refine kz_zast (M := kt_M358) (c := 12) (o := 0) (k := 145) (a := (E.2.1 4217)) kX13_begin_c11.2.2.1 ow_12_0_145 oa_12_0_145 ot_2 h (fun h => ?_)
    refine kz_inc (M := kt_M358) [(0, .ref (w_adr E.2.1 12 0))] kX13_begin_c11.2.2.2.1 rfl (Nat.le_of_ble_eq_true rfl) ⟨⟨rfl, rfl, .inl rfl⟩, trivial⟩ rfl ?_
    refine kz_goto (M := kt_M358) kX13_begin_c11.2.2.2.2.1 (t := 141) rfl ?_
    exact kz_weak [(0, .ref (w_adr E.2.1 12 0)), (2, .int (x2 + 1))] ⟨rfl, ⟨rfl, trivial⟩⟩ rfl h
def zb_X13_begin_p13 (E : zE) (L : Nat) (Q : kx_Rs → wS → Prop) (x1 : Int32) (y0 : Int32) (w : wS) : Prop := (if y0 ≤ 0 then zL_X13_begin_p141 E L Q 0 (ws_i (ws_i (ws_i (ws_i (ws_i (ws_i (ws_i (ws_i (ws_i (ws_i (ws_i (ws_i (ws_i (ws_i (ws_i (ws_i (ws_i (ws_i (ws_i (ws_i (ws_i (ws_i (ws_i (ws_i w 12 0 1 y0) 12 0 123 1) 12 0 124 0) 12 0 125 0) 12 0 126 x1) 12 0 127 0) 12 0 128 0) 12 0 129 0) 12 0 130 0) 12 0 131 0) 12 0 132 0) 12 0 133 0) 12 0 134 0) 12 0 135 0) 12 0 137 0) 12 0 114 0) 12 0 115 0) 12 0 119 0) 12 0 120 0) 12 0 170 0) 12 0 174 0) 12 0 166 0) 12 0 167 (-1)) 12 0 143 0) else Q (.inl none) (ws_i w 12 0 1 y0))
theorem zt_X13_begin_p13 {E : zE} {L : Nat} {Q : kx_Rs → wS → Prop} {x1 : Int32} {y0 : Int32} {w : wS} (hL : 24 ≤ L) (h : zb_X13_begin_p13 E L Q x1 y0 w) : kzE E L kt_M358 13 [(0, .ref (w_adr E.2.1 12 0)), (1, .int x1)] [.int y0, .ref (w_adr E.2.1 12 0)] w Q := by
  unfold zb_X13_begin_p13 at h
  refine kz_pfi (M := kt_M358) (c := 12) (o := 0) kX13_begin_c0.2.2.2.2.2.2.2.1 wq_X13_451 (.inl rfl) ?_
  refine kz_aload_n (M := kt_M358) kX13_begin_c1.1 rfl ?_
  refine kz_gfiR (M := kt_M358) (c := 12) (o := 0) y0 kX13_begin_c1.2.1 wf_X13_451 (.inl rfl) rd_i_e ?_
  refine kz_if_le (M := kt_M358) kX13_begin_c1.2.2.1 (t := 24) rfl h (fun h => ?_) (fun h => ?_)
  · skip
    refine kz_aload_n (M := kt_M358) kX13_begin_c1.2.2.2.2.1 rfl ?_
    refine kz_ic (M := kt_M358) 1 kX13_begin_c1.2.2.2.2.2.1 rfl ?_
    refine kz_pfz (M := kt_M358) (c := 12) (o := 0) kX13_begin_c1.2.2.2.2.2.2.1 wq_X13_1122 (.inl rfl) (by decide) ?_
    refine kz_aload_n (M := kt_M358) kX13_begin_c1.2.2.2.2.2.2.2.1 rfl ?_
    refine kz_ic (M := kt_M358) 0 kX13_begin_c2.1 rfl ?_
    refine kz_pfz (M := kt_M358) (c := 12) (o := 0) kX13_begin_c2.2.1 wq_X13_1328 (.inl rfl) (by decide) ?_
    refine kz_aload_n (M := kt_M358) kX13_begin_c2.2.2.1 rfl ?_
    refine kz_ic (M := kt_M358) 0 kX13_begin_c2.2.2.2.1 rfl ?_
    refine kz_pfz (M := kt_M358) (c := 12) (o := 0) kX13_begin_c2.2.2.2.2.1 wq_X13_1313 (.inl rfl) (by decide) ?_
    refine kz_aload_n (M := kt_M358) kX13_begin_c2.2.2.2.2.2.1 rfl ?_
    refine kz_iload_n (M := kt_M358) kX13_begin_c2.2.2.2.2.2.2.1 rfl ?_
    refine kz_pfi (M := kt_M358) (c := 12) (o := 0) kX13_begin_c2.2.2.2.2.2.2.2.1 wq_X13_1472 (.inl rfl) ?_
    refine kz_aload_n (M := kt_M358) kX13_begin_c3.1 rfl ?_
    refine kz_ic (M := kt_M358) 0 kX13_begin_c3.2.1 rfl ?_
    refine kz_pfi (M := kt_M358) (c := 12) (o := 0) kX13_begin_c3.2.2.1 wq_X13_1431 (.inl rfl) ?_
    refine kz_aload_n (M := kt_M358) kX13_begin_c3.2.2.2.1 rfl ?_
    refine kz_ic (M := kt_M358) 0 kX13_begin_c3.2.2.2.2.1 rfl ?_
    refine kz_pfi (M := kt_M358) (c := 12) (o := 0) kX13_begin_c3.2.2.2.2.2.1 wq_X13_1388 (.inl rfl) ?_
    refine kz_aload_n (M := kt_M358) kX13_begin_c3.2.2.2.2.2.2.1 rfl ?_
    refine kz_ic (M := kt_M358) 0 kX13_begin_c3.2.2.2.2.2.2.2.1 rfl ?_
    refine kz_pfi (M := kt_M358) (c := 12) (o := 0) kX13_begin_c4.1 wq_X13_1337 (.inl rfl) ?_
    refine kz_aload_n (M := kt_M358) kX13_begin_c4.2.1 rfl ?_
    refine kz_ic (M := kt_M358) 0 kX13_begin_c4.2.2.1 rfl ?_
    refine kz_pfi (M := kt_M358) (c := 12) (o := 0) kX13_begin_c4.2.2.2.1 wq_X13_1428 (.inl rfl) ?_
    refine kz_aload_n (M := kt_M358) kX13_begin_c4.2.2.2.2.1 rfl ?_
    refine kz_ic (M := kt_M358) 0 kX13_begin_c4.2.2.2.2.2.1 rfl ?_
    refine kz_pfi (M := kt_M358) (c := 12) (o := 0) kX13_begin_c4.2.2.2.2.2.2.1 wq_X13_1243 (.inl rfl) ?_
    refine kz_aload_n (M := kt_M358) kX13_begin_c4.2.2.2.2.2.2.2.1 rfl ?_
    refine kz_ic (M := kt_M358) 0 kX13_begin_c5.1 rfl ?_
    refine kz_pfi (M := kt_M358) (c := 12) (o := 0) kX13_begin_c5.2.1 wq_X13_1198 (.inl rfl) ?_
    refine kz_aload_n (M := kt_M358) kX13_begin_c5.2.2.1 rfl ?_
    refine kz_ic (M := kt_M358) 0 kX13_begin_c5.2.2.2.1 rfl ?_
    refine kz_pfi (M := kt_M358) (c := 12) (o := 0) kX13_begin_c5.2.2.2.2.1 wq_X13_1260 (.inl rfl) ?_
    refine kz_aload_n (M := kt_M358) kX13_begin_c5.2.2.2.2.2.1 rfl ?_
    refine kz_ic (M := kt_M358) 0 kX13_begin_c5.2.2.2.2.2.2.1 rfl ?_
    refine kz_pfi (M := kt_M358) (c := 12) (o := 0) kX13_begin_c5.2.2.2.2.2.2.2.1 wq_X13_1272 (.inl rfl) ?_
    refine kz_aload_n (M := kt_M358) kX13_begin_c6.1 rfl ?_
    refine kz_ic (M := kt_M358) 0 kX13_begin_c6.2.1 rfl ?_
    refine kz_pfi (M := kt_M358) (c := 12) (o := 0) kX13_begin_c6.2.2.1 wq_X13_1404 (.inl rfl) ?_
    refine kz_aload_n (M := kt_M358) kX13_begin_c6.2.2.2.1 rfl ?_
    refine kz_ic (M := kt_M358) 0 kX13_begin_c6.2.2.2.2.1 rfl ?_
    refine kz_pfi (M := kt_M358) (c := 12) (o := 0) kX13_begin_c6.2.2.2.2.2.1 wq_X13_1448 (.inl rfl) ?_
    refine kz_aload_n (M := kt_M358) kX13_begin_c6.2.2.2.2.2.2.1 rfl ?_
    refine kz_ic (M := kt_M358) 0 kX13_begin_c6.2.2.2.2.2.2.2.1 rfl ?_
    refine kz_pfi (M := kt_M358) (c := 12) (o := 0) kX13_begin_c7.1 wq_X13_1149 (.inl rfl) ?_
    refine kz_aload_n (M := kt_M358) kX13_begin_c7.2.1 rfl ?_
    refine kz_ic (M := kt_M358) 0 kX13_begin_c7.2.2.1 rfl ?_
    refine kz_pfi (M := kt_M358) (c := 12) (o := 0) kX13_begin_c7.2.2.2.1 wq_X13_1143 (.inl rfl) ?_
    refine kz_aload_n (M := kt_M358) kX13_begin_c7.2.2.2.2.1 rfl ?_
    refine kz_ic (M := kt_M358) 0 kX13_begin_c7.2.2.2.2.2.1 rfl ?_
    refine kz_pfi (M := kt_M358) (c := 12) (o := 0) kX13_begin_c7.2.2.2.2.2.2.1 wq_X13_1137 (.inl rfl) ?_
    refine kz_aload_n (M := kt_M358) kX13_begin_c7.2.2.2.2.2.2.2.1 rfl ?_
    refine kz_ic (M := kt_M358) 0 kX13_begin_c8.1 rfl ?_
    refine kz_pfi (M := kt_M358) (c := 12) (o := 0) kX13_begin_c8.2.1 wq_X13_1131 (.inl rfl) ?_
    refine kz_aload_n (M := kt_M358) kX13_begin_c8.2.2.1 rfl ?_
    refine kz_ic (M := kt_M358) 0 kX13_begin_c8.2.2.2.1 rfl ?_
    refine kz_pfi (M := kt_M358) (c := 12) (o := 0) kX13_begin_c8.2.2.2.2.1 wq_X13_1201 (.inl rfl) ?_
    refine kz_aload_n (M := kt_M358) kX13_begin_c8.2.2.2.2.2.1 rfl ?_
    refine kz_ic (M := kt_M358) 0 kX13_begin_c8.2.2.2.2.2.2.1 rfl ?_
    refine kz_pfi (M := kt_M358) (c := 12) (o := 0) kX13_begin_c8.2.2.2.2.2.2.2.1 wq_X13_1325 (.inl rfl) ?_
    refine kz_aload_n (M := kt_M358) kX13_begin_c9.1 rfl ?_
    refine kz_ic (M := kt_M358) 0 kX13_begin_c9.2.1 rfl ?_
    refine kz_pfi (M := kt_M358) (c := 12) (o := 0) kX13_begin_c9.2.2.1 wq_X13_1158 (.inl rfl) ?_
    refine kz_aload_n (M := kt_M358) kX13_begin_c9.2.2.2.1 rfl ?_
    refine kz_ic (M := kt_M358) (-1) kX13_begin_c9.2.2.2.2.1 rfl ?_
    refine kz_pfi (M := kt_M358) (c := 12) (o := 0) kX13_begin_c9.2.2.2.2.2.1 wq_X13_1152 (.inl rfl) ?_
    refine kz_aload_n (M := kt_M358) kX13_begin_c9.2.2.2.2.2.2.1 rfl ?_
    refine kz_ic (M := kt_M358) 0 kX13_begin_c9.2.2.2.2.2.2.2.1 rfl ?_
    refine kz_pfi (M := kt_M358) (c := 12) (o := 0) kX13_begin_c10.1 wq_X13_1186 (.inl rfl) ?_
    refine kz_ic (M := kt_M358) 0 kX13_begin_c10.2.1 rfl ?_
    refine kz_sti_n (M := kt_M358) [(0, .ref (w_adr E.2.1 12 0))] kX13_begin_c10.2.2.1 (Nat.le_of_ble_eq_true rfl) ⟨⟨rfl, rfl, .inl rfl⟩, trivial⟩ rfl ?_
    exact kz_weak [(0, .ref (w_adr E.2.1 12 0)), (2, .int 0)] ⟨rfl, ⟨rfl, trivial⟩⟩ rfl h
  · skip
    exact kz_ret (M := kt_M358) kX13_begin_c1.2.2.2.1 rfl h
def zb_X13_begin_p0 (E : zE) (L : Nat) (Q : kx_Rs → wS → Prop) (x1 : Int32) (w : wS) : Prop := (if w_i w 12 0 110 = 0 then zb_X13_begin_p13 E L Q x1 1 w else zb_X13_begin_p13 E L Q x1 0 w)
theorem zt_X13_begin_p0 {E : zE} {L : Nat} {Q : kx_Rs → wS → Prop} {x1 : Int32} {w : wS} (hL : 24 ≤ L) (h : zb_X13_begin_p0 E L Q x1 w) : kzE E L kt_M358 0 [(0, .ref (w_adr E.2.1 12 0)), (1, .int x1)] [] w Q := by
  unfold zb_X13_begin_p0 at h
  refine kz_aload_n (M := kt_M358) kX13_begin_c0.1 rfl ?_
  refine kz_aload_n (M := kt_M358) kX13_begin_c0.2.1 rfl ?_
  refine kz_gfi (M := kt_M358) (c := 12) (o := 0) kX13_begin_c0.2.2.1 wf_X13_1119 (.inl rfl) ?_
  refine kz_if_eq (M := kt_M358) kX13_begin_c0.2.2.2.1 (t := 12) rfl h (fun h => ?_) (fun h => ?_)
  · skip
    refine kz_ic (M := kt_M358) 1 kX13_begin_c0.2.2.2.2.2.2.1 rfl ?_
    exact kz_weak [(0, .ref (w_adr E.2.1 12 0)), (1, .int x1)] ⟨rfl, ⟨rfl, trivial⟩⟩ rfl (zt_X13_begin_p13 hL  h)
  · skip
    refine kz_ic (M := kt_M358) 0 kX13_begin_c0.2.2.2.2.1 rfl ?_
    refine kz_goto (M := kt_M358) kX13_begin_c0.2.2.2.2.2.1 (t := 13) rfl ?_
    exact kz_weak [(0, .ref (w_adr E.2.1 12 0)), (1, .int x1)] ⟨rfl, ⟨rfl, trivial⟩⟩ rfl (zt_X13_begin_p13 hL  h)
def zL_X13_dropPiece_p12 (E : zE) (L : Nat) (Q : kx_Rs → wS → Prop) (x2 : Int32) (w : wS) : Prop := kzE E L kt_M391 12 [(0, .ref (w_adr E.2.1 12 0)), (2, .int x2)] [] w Q
def zb_X13_dropPiece_p12 (E : zE) (L : Nat) (Q : kx_Rs → wS → Prop) (x2 : Int32) (w : wS) : Prop := (if w_i w 12 0 115 ≤ x2 then Q (.inl none) w else (kx_inb (x2 + 1) (w_n w 12 0 116) = true ∧ (kx_inb x2 (w_n w 12 0 116) = true ∧ (kx_inb (x2 + 1) (w_n w 12 0 117) = true ∧ (kx_inb x2 (w_n w 12 0 117) = true ∧ zL_X13_dropPiece_p12 E L Q (x2 + 1) (ws_a (ws_a w 12 0 116 (x2).toNatClampNeg (w_a w 12 0 116 ((x2 + 1)).toNatClampNeg)) 12 0 117 (x2).toNatClampNeg (w_a w 12 0 117 ((x2 + 1)).toNatClampNeg)))))))
theorem zt_X13_dropPiece_p12 {E : zE} {L : Nat} {Q : kx_Rs → wS → Prop} {x2 : Int32} {w : wS} (hL : 19 ≤ L) (h : zb_X13_dropPiece_p12 E L Q x2 w) : kzE E L kt_M391 12 [(0, .ref (w_adr E.2.1 12 0)), (2, .int x2)] [] w Q := by
  unfold zb_X13_dropPiece_p12 at h
  refine kz_iload_n (M := kt_M391) kX13_dropPiece_c1.1 rfl ?_
  refine kz_aload_n (M := kt_M391) kX13_dropPiece_c1.2.1 rfl ?_
  refine kz_gfi (M := kt_M391) (c := 12) (o := 0) kX13_dropPiece_c1.2.2.1 wf_X13_1143 (.inl rfl) ?_
  refine kz_icmp_ge (M := kt_M391) kX13_dropPiece_c1.2.2.2.1 (t := 54) rfl h (fun h => ?_) (fun h => ?_)
  · skip
    exact kz_ret (M := kt_M391) kX13_dropPiece_c4.2.2.1 rfl h
  · skip
    refine kz_aload_n (M := kt_M391) kX13_dropPiece_c1.2.2.2.2.1 rfl ?_
    refine kz_gfa (M := kt_M391) (c := 12) (o := 0) kX13_dropPiece_c1.2.2.2.2.2.1 wf_X13_359 (.inl rfl) ?_
    refine kz_iload_n (M := kt_M391) kX13_dropPiece_c1.2.2.2.2.2.2.1 rfl ?_
    refine kz_aload_n (M := kt_M391) kX13_dropPiece_c1.2.2.2.2.2.2.2.1 rfl ?_
    refine kz_gfa (M := kt_M391) (c := 12) (o := 0) kX13_dropPiece_c2.1 wf_X13_359 (.inl rfl) ?_
    refine kz_iload_n (M := kt_M391) kX13_dropPiece_c2.2.1 rfl ?_
    refine kz_ic (M := kt_M391) 1 kX13_dropPiece_c2.2.2.1 rfl ?_
    refine kz_iadd (M := kt_M391) kX13_dropPiece_c2.2.2.2.1 ?_
    refine kz_iald (M := kt_M391) (c := 12) (o := 0) (k := 116) (a := (w_d w 12 0 116)) kX13_dropPiece_c2.2.2.2.2.1 ow_12_0_116 oa_12_0_116 ot_0 h (fun h => ?_)
    refine kz_iast (M := kt_M391) (c := 12) (o := 0) (k := 116) (a := (w_d w 12 0 116)) kX13_dropPiece_c2.2.2.2.2.2.1 ow_12_0_116 oa_12_0_116 ot_0 h (fun h => ?_)
    refine kz_aload_n (M := kt_M391) kX13_dropPiece_c2.2.2.2.2.2.2.1 rfl ?_
    refine kz_gfa (M := kt_M391) (c := 12) (o := 0) kX13_dropPiece_c2.2.2.2.2.2.2.2.1 wf_X13_362 (.inl rfl) ?_
    refine kz_iload_n (M := kt_M391) kX13_dropPiece_c3.1 rfl ?_
    refine kz_aload_n (M := kt_M391) kX13_dropPiece_c3.2.1 rfl ?_
    refine kz_gfa (M := kt_M391) (c := 12) (o := 0) kX13_dropPiece_c3.2.2.1 wf_X13_362 (.inl rfl) ?_
    refine kz_iload_n (M := kt_M391) kX13_dropPiece_c3.2.2.2.1 rfl ?_
    refine kz_ic (M := kt_M391) 1 kX13_dropPiece_c3.2.2.2.2.1 rfl ?_
    refine kz_iadd (M := kt_M391) kX13_dropPiece_c3.2.2.2.2.2.1 ?_
    refine kz_ialdR (M := kt_M391) (n := w_n w 12 0 117) (c := 12) (o := 0) (k := 117) (a := (w_d (ws_a w 12 0 116 (x2).toNatClampNeg (w_a w 12 0 116 ((x2 + 1)).toNatClampNeg)) 12 0 117)) (w_a w 12 0 117 ((x2 + 1)).toNatClampNeg) kX13_dropPiece_c3.2.2.2.2.2.2.1 ow_12_0_117 oa_12_0_117 ot_0 rd_n_a (rd_a_a rfl) h (fun h => ?_)
    refine kz_iastR (M := kt_M391) (n := w_n w 12 0 117) (c := 12) (o := 0) (k := 117) (a := (w_d (ws_a w 12 0 116 (x2).toNatClampNeg (w_a w 12 0 116 ((x2 + 1)).toNatClampNeg)) 12 0 117)) kX13_dropPiece_c3.2.2.2.2.2.2.2.1 ow_12_0_117 oa_12_0_117 ot_0 rd_n_a h (fun h => ?_)
    refine kz_inc (M := kt_M391) [(0, .ref (w_adr E.2.1 12 0))] kX13_dropPiece_c4.1 rfl (Nat.le_of_ble_eq_true rfl) ⟨⟨rfl, rfl, .inl rfl⟩, trivial⟩ rfl ?_
    refine kz_goto (M := kt_M391) kX13_dropPiece_c4.2.1 (t := 12) rfl ?_
    exact kz_weak [(0, .ref (w_adr E.2.1 12 0)), (2, .int (x2 + 1))] ⟨rfl, ⟨rfl, trivial⟩⟩ rfl h
def zb_X13_dropPiece_p0 (E : zE) (L : Nat) (Q : kx_Rs → wS → Prop) (x1 : Int32) (w : wS) : Prop := zL_X13_dropPiece_p12 E L Q x1 (ws_i w 12 0 115 ((w_i w 12 0 115) - 1))
theorem zt_X13_dropPiece_p0 {E : zE} {L : Nat} {Q : kx_Rs → wS → Prop} {x1 : Int32} {w : wS} (hL : 19 ≤ L) (h : zb_X13_dropPiece_p0 E L Q x1 w) : kzE E L kt_M391 0 [(0, .ref (w_adr E.2.1 12 0)), (1, .int x1)] [] w Q := by
  unfold zb_X13_dropPiece_p0 at h
  refine kz_aload_n (M := kt_M391) kX13_dropPiece_c0.1 rfl ?_
  refine kz_dup (M := kt_M391) kX13_dropPiece_c0.2.1 rfl ?_
  refine kz_gfi (M := kt_M391) (c := 12) (o := 0) kX13_dropPiece_c0.2.2.1 wf_X13_1143 (.inl rfl) ?_
  refine kz_ic (M := kt_M391) 1 kX13_dropPiece_c0.2.2.2.1 rfl ?_
  refine kz_isub (M := kt_M391) kX13_dropPiece_c0.2.2.2.2.1 ?_
  refine kz_pfi (M := kt_M391) (c := 12) (o := 0) kX13_dropPiece_c0.2.2.2.2.2.1 wq_X13_1143 (.inl rfl) ?_
  refine kz_iload_n (M := kt_M391) kX13_dropPiece_c0.2.2.2.2.2.2.1 rfl ?_
  refine kz_sti_n (M := kt_M391) [(0, .ref (w_adr E.2.1 12 0))] kX13_dropPiece_c0.2.2.2.2.2.2.2.1 (Nat.le_of_ble_eq_true rfl) ⟨⟨rfl, rfl, .inl rfl⟩, trivial⟩ rfl ?_
  exact kz_weak [(0, .ref (w_adr E.2.1 12 0)), (2, .int x1)] ⟨rfl, ⟨rfl, trivial⟩⟩ rfl h
def zb_X13_newFrame_p0 (E : zE) (L : Nat) (Q : kx_Rs → wS → Prop) (x1 : Int32) (x2 : Int32) (w : wS) : Prop := (kx_inb x1 (w_n w 12 0 61) = true ∧ zw E (L - 23) kt_M524 [.ref (w_adr E.2.1 12 0), .int (2 + (w_a w 12 0 61 (x1).toNatClampNeg))] w (wk1 (fun v2 w1 => wle w w1 → zw E (L - 22) kt_M547 [.ref (w_adr E.2.1 12 0), .int v2, .int x1] w1 (wk0 (fun w3 => wle w1 w3 → zw E (L - 22) kt_M547 [.ref (w_adr E.2.1 12 0), .int (v2 + 1), .int x2] w3 (wk0 (fun w5 => wle w3 w5 → Q (.inl (some (.int v2))) w5) (fun e w => Q (.inr e) w))) (fun e w => Q (.inr e) w))) (fun e w => Q (.inr e) w)))
theorem zt_X13_newFrame_p0 {E : zE} {L : Nat} {Q : kx_Rs → wS → Prop} {x1 : Int32} {x2 : Int32} {w : wS} (hL : 23 ≤ L) (h : zb_X13_newFrame_p0 E L Q x1 x2 w) : kzE E L kt_M490 0 [(0, .ref (w_adr E.2.1 12 0)), (1, .int x1), (2, .int x2)] [] w Q := by
  unfold zb_X13_newFrame_p0 at h
  refine kz_aload_n (M := kt_M490) kX13_newFrame_c0.1 rfl ?_
  refine kz_ic (M := kt_M490) 2 kX13_newFrame_c0.2.1 rfl ?_
  refine kz_aload_n (M := kt_M490) kX13_newFrame_c0.2.2.1 rfl ?_
  refine kz_gfc (M := kt_M490) (x := 4133) (c := 12) (o := 0) kX13_newFrame_c0.2.2.2.1 wf_X13_260 (.inl rfl) ?_
  refine kz_iload_n (M := kt_M490) kX13_newFrame_c0.2.2.2.2.1 rfl ?_
  refine kz_iald (M := kt_M490) (c := 12) (o := 0) (k := 61) (a := (E.2.1 4133)) kX13_newFrame_c0.2.2.2.2.2.1 ow_12_0_61 oa_12_0_61 ot_0 h (fun h => ?_)
  refine kz_iadd (M := kt_M490) kX13_newFrame_c0.2.2.2.2.2.2.1 ?_
  refine kz_cv1 (M := kt_M490) (c := 12) (o := 0) (As := [.int (2 + (w_a w 12 0 61 (x1).toNatClampNeg))]) (rest := []) kX13_newFrame_c0.2.2.2.2.2.2.2.1 wl_X13_1174 wMv_524 rfl (.inl rfl) rfl (Nat.le_trans (Nat.le_of_ble_eq_true rfl) hL) (Nat.le_of_ble_eq_true rfl) (Nat.le_of_ble_eq_true rfl) h (fun v2 w1 hle h => ?_) (fun _ _ _ h => kzx_no rfl h)
  have h := h hle
  refine kz_sti_n (M := kt_M490) [(0, .ref (w_adr E.2.1 12 0)), (1, .int x1), (2, .int x2)] kX13_newFrame_c1.1 (Nat.le_of_ble_eq_true rfl) ⟨⟨rfl, rfl, .inl rfl⟩, ⟨⟨rfl, rfl, .inl rfl⟩, ⟨⟨rfl, rfl, .inr rfl⟩, trivial⟩⟩⟩ rfl ?_
  refine kz_aload_n (M := kt_M490) kX13_newFrame_c1.2.1 rfl ?_
  refine kz_iload_n (M := kt_M490) kX13_newFrame_c1.2.2.1 rfl ?_
  refine kz_iload_n (M := kt_M490) kX13_newFrame_c1.2.2.2.1 rfl ?_
  refine kz_cv0 (M := kt_M490) (c := 12) (o := 0) (As := [.int v2, .int x1]) (rest := []) kX13_newFrame_c1.2.2.2.2.1 wl_X13_1140 wMv_547 rfl (.inl rfl) rfl (Nat.le_trans (Nat.le_of_ble_eq_true rfl) hL) (Nat.le_of_ble_eq_true rfl) (Nat.le_of_ble_eq_true rfl) h (fun w3 hle h => ?_) (fun _ _ _ h => kzx_no rfl h)
  have h := h hle
  refine kz_aload_n (M := kt_M490) kX13_newFrame_c1.2.2.2.2.2.1 rfl ?_
  refine kz_iload_n (M := kt_M490) kX13_newFrame_c1.2.2.2.2.2.2.1 rfl ?_
  refine kz_ic (M := kt_M490) 1 kX13_newFrame_c1.2.2.2.2.2.2.2.1 rfl ?_
  refine kz_iadd (M := kt_M490) kX13_newFrame_c2.1 ?_
  refine kz_iload_n (M := kt_M490) kX13_newFrame_c2.2.1 rfl ?_
  refine kz_cv0 (M := kt_M490) (c := 12) (o := 0) (As := [.int (v2 + 1), .int x2]) (rest := []) kX13_newFrame_c2.2.2.1 wl_X13_1140 wMv_547 rfl (.inl rfl) rfl (Nat.le_trans (Nat.le_of_ble_eq_true rfl) hL) (Nat.le_of_ble_eq_true rfl) (Nat.le_of_ble_eq_true rfl) h (fun w5 hle h => ?_) (fun _ _ _ h => kzx_no rfl h)
  have h := h hle
  refine kz_iload_n (M := kt_M490) kX13_newFrame_c2.2.2.2.1 rfl ?_
  exact kz_iret (M := kt_M490) kX13_newFrame_c2.2.2.2.2.1 rfl rfl h
def zL_X13_dropGap_p12 (E : zE) (L : Nat) (Q : kx_Rs → wS → Prop) (x2 : Int32) (w : wS) : Prop := kzE E L kt_M390 12 [(0, .ref (w_adr E.2.1 12 0)), (2, .int x2)] [] w Q
def zb_X13_dropGap_p12 (E : zE) (L : Nat) (Q : kx_Rs → wS → Prop) (x2 : Int32) (w : wS) : Prop := (if w_i w 12 0 120 ≤ x2 then Q (.inl none) w else (kx_inb (x2 + 1) (w_n w 12 0 121) = true ∧ (kx_inb x2 (w_n w 12 0 121) = true ∧ (kx_inb (x2 + 1) (w_n w 12 0 122) = true ∧ (kx_inb x2 (w_n w 12 0 122) = true ∧ zL_X13_dropGap_p12 E L Q (x2 + 1) (ws_a (ws_a w 12 0 121 (x2).toNatClampNeg (w_a w 12 0 121 ((x2 + 1)).toNatClampNeg)) 12 0 122 (x2).toNatClampNeg (w_a w 12 0 122 ((x2 + 1)).toNatClampNeg)))))))
theorem zt_X13_dropGap_p12 {E : zE} {L : Nat} {Q : kx_Rs → wS → Prop} {x2 : Int32} {w : wS} (hL : 19 ≤ L) (h : zb_X13_dropGap_p12 E L Q x2 w) : kzE E L kt_M390 12 [(0, .ref (w_adr E.2.1 12 0)), (2, .int x2)] [] w Q := by
  unfold zb_X13_dropGap_p12 at h
  refine kz_iload_n (M := kt_M390) kX13_dropGap_c1.1 rfl ?_
  refine kz_aload_n (M := kt_M390) kX13_dropGap_c1.2.1 rfl ?_
  refine kz_gfi (M := kt_M390) (c := 12) (o := 0) kX13_dropGap_c1.2.2.1 wf_X13_1131 (.inl rfl) ?_
  refine kz_icmp_ge (M := kt_M390) kX13_dropGap_c1.2.2.2.1 (t := 54) rfl h (fun h => ?_) (fun h => ?_)
  · skip
    exact kz_ret (M := kt_M390) kX13_dropGap_c4.2.2.1 rfl h
  · skip
    refine kz_aload_n (M := kt_M390) kX13_dropGap_c1.2.2.2.2.1 rfl ?_
    refine kz_gfa (M := kt_M390) (c := 12) (o := 0) kX13_dropGap_c1.2.2.2.2.2.1 wf_X13_370 (.inl rfl) ?_
    refine kz_iload_n (M := kt_M390) kX13_dropGap_c1.2.2.2.2.2.2.1 rfl ?_
    refine kz_aload_n (M := kt_M390) kX13_dropGap_c1.2.2.2.2.2.2.2.1 rfl ?_
    refine kz_gfa (M := kt_M390) (c := 12) (o := 0) kX13_dropGap_c2.1 wf_X13_370 (.inl rfl) ?_
    refine kz_iload_n (M := kt_M390) kX13_dropGap_c2.2.1 rfl ?_
    refine kz_ic (M := kt_M390) 1 kX13_dropGap_c2.2.2.1 rfl ?_
    refine kz_iadd (M := kt_M390) kX13_dropGap_c2.2.2.2.1 ?_
    refine kz_iald (M := kt_M390) (c := 12) (o := 0) (k := 121) (a := (w_d w 12 0 121)) kX13_dropGap_c2.2.2.2.2.1 ow_12_0_121 oa_12_0_121 ot_0 h (fun h => ?_)
    refine kz_iast (M := kt_M390) (c := 12) (o := 0) (k := 121) (a := (w_d w 12 0 121)) kX13_dropGap_c2.2.2.2.2.2.1 ow_12_0_121 oa_12_0_121 ot_0 h (fun h => ?_)
    refine kz_aload_n (M := kt_M390) kX13_dropGap_c2.2.2.2.2.2.2.1 rfl ?_
    refine kz_gfa (M := kt_M390) (c := 12) (o := 0) kX13_dropGap_c2.2.2.2.2.2.2.2.1 wf_X13_373 (.inl rfl) ?_
    refine kz_iload_n (M := kt_M390) kX13_dropGap_c3.1 rfl ?_
    refine kz_aload_n (M := kt_M390) kX13_dropGap_c3.2.1 rfl ?_
    refine kz_gfa (M := kt_M390) (c := 12) (o := 0) kX13_dropGap_c3.2.2.1 wf_X13_373 (.inl rfl) ?_
    refine kz_iload_n (M := kt_M390) kX13_dropGap_c3.2.2.2.1 rfl ?_
    refine kz_ic (M := kt_M390) 1 kX13_dropGap_c3.2.2.2.2.1 rfl ?_
    refine kz_iadd (M := kt_M390) kX13_dropGap_c3.2.2.2.2.2.1 ?_
    refine kz_ialdR (M := kt_M390) (n := w_n w 12 0 122) (c := 12) (o := 0) (k := 122) (a := (w_d (ws_a w 12 0 121 (x2).toNatClampNeg (w_a w 12 0 121 ((x2 + 1)).toNatClampNeg)) 12 0 122)) (w_a w 12 0 122 ((x2 + 1)).toNatClampNeg) kX13_dropGap_c3.2.2.2.2.2.2.1 ow_12_0_122 oa_12_0_122 ot_0 rd_n_a (rd_a_a rfl) h (fun h => ?_)
    refine kz_iastR (M := kt_M390) (n := w_n w 12 0 122) (c := 12) (o := 0) (k := 122) (a := (w_d (ws_a w 12 0 121 (x2).toNatClampNeg (w_a w 12 0 121 ((x2 + 1)).toNatClampNeg)) 12 0 122)) kX13_dropGap_c3.2.2.2.2.2.2.2.1 ow_12_0_122 oa_12_0_122 ot_0 rd_n_a h (fun h => ?_)
    refine kz_inc (M := kt_M390) [(0, .ref (w_adr E.2.1 12 0))] kX13_dropGap_c4.1 rfl (Nat.le_of_ble_eq_true rfl) ⟨⟨rfl, rfl, .inl rfl⟩, trivial⟩ rfl ?_
    refine kz_goto (M := kt_M390) kX13_dropGap_c4.2.1 (t := 12) rfl ?_
    exact kz_weak [(0, .ref (w_adr E.2.1 12 0)), (2, .int (x2 + 1))] ⟨rfl, ⟨rfl, trivial⟩⟩ rfl h
def zb_X13_dropGap_p0 (E : zE) (L : Nat) (Q : kx_Rs → wS → Prop) (x1 : Int32) (w : wS) : Prop := zL_X13_dropGap_p12 E L Q x1 (ws_i w 12 0 120 ((w_i w 12 0 120) - 1))
theorem zt_X13_dropGap_p0 {E : zE} {L : Nat} {Q : kx_Rs → wS → Prop} {x1 : Int32} {w : wS} (hL : 19 ≤ L) (h : zb_X13_dropGap_p0 E L Q x1 w) : kzE E L kt_M390 0 [(0, .ref (w_adr E.2.1 12 0)), (1, .int x1)] [] w Q := by
  unfold zb_X13_dropGap_p0 at h
  refine kz_aload_n (M := kt_M390) kX13_dropGap_c0.1 rfl ?_
  refine kz_dup (M := kt_M390) kX13_dropGap_c0.2.1 rfl ?_
  refine kz_gfi (M := kt_M390) (c := 12) (o := 0) kX13_dropGap_c0.2.2.1 wf_X13_1131 (.inl rfl) ?_
  refine kz_ic (M := kt_M390) 1 kX13_dropGap_c0.2.2.2.1 rfl ?_
  refine kz_isub (M := kt_M390) kX13_dropGap_c0.2.2.2.2.1 ?_
  refine kz_pfi (M := kt_M390) (c := 12) (o := 0) kX13_dropGap_c0.2.2.2.2.2.1 wq_X13_1131 (.inl rfl) ?_
  refine kz_iload_n (M := kt_M390) kX13_dropGap_c0.2.2.2.2.2.2.1 rfl ?_
  refine kz_sti_n (M := kt_M390) [(0, .ref (w_adr E.2.1 12 0))] kX13_dropGap_c0.2.2.2.2.2.2.2.1 (Nat.le_of_ble_eq_true rfl) ⟨⟨rfl, rfl, .inl rfl⟩, trivial⟩ rfl ?_
  exact kz_weak [(0, .ref (w_adr E.2.1 12 0)), (2, .int x1)] ⟨rfl, ⟨rfl, trivial⟩⟩ rfl h
def zb_X13_cellsOf_p0 (E : zE) (L : Nat) (Q : kx_Rs → wS → Prop) (x1 : Int32) (x2 : Int32) (w : wS) : Prop := (kx_inb x2 (w_n w 12 0 52) = true ∧ Q (.inl (some (.int ((x1 + 2) + (w_a w 12 0 52 (x2).toNatClampNeg))))) w)
theorem zt_X13_cellsOf_p0 {E : zE} {L : Nat} {Q : kx_Rs → wS → Prop} {x1 : Int32} {x2 : Int32} {w : wS} (hL : 19 ≤ L) (h : zb_X13_cellsOf_p0 E L Q x1 x2 w) : kzE E L kt_M367 0 [(0, .ref (w_adr E.2.1 12 0)), (1, .int x1), (2, .int x2)] [] w Q := by
  unfold zb_X13_cellsOf_p0 at h
  refine kz_iload_n (M := kt_M367) kX13_cellsOf_c0.1 rfl ?_
  refine kz_ic (M := kt_M367) 2 kX13_cellsOf_c0.2.1 rfl ?_
  refine kz_iadd (M := kt_M367) kX13_cellsOf_c0.2.2.1 ?_
  refine kz_aload_n (M := kt_M367) kX13_cellsOf_c0.2.2.2.1 rfl ?_
  refine kz_gfc (M := kt_M367) (x := 4124) (c := 12) (o := 0) kX13_cellsOf_c0.2.2.2.2.1 wf_X13_241 (.inl rfl) ?_
  refine kz_iload_n (M := kt_M367) kX13_cellsOf_c0.2.2.2.2.2.1 rfl ?_
  refine kz_iald (M := kt_M367) (c := 12) (o := 0) (k := 52) (a := (E.2.1 4124)) kX13_cellsOf_c0.2.2.2.2.2.2.1 ow_12_0_52 oa_12_0_52 ot_0 h (fun h => ?_)
  refine kz_iadd (M := kt_M367) kX13_cellsOf_c0.2.2.2.2.2.2.2.1 ?_
  exact kz_iret (M := kt_M367) kX13_cellsOf_c1.1 rfl rfl h
def zL_X13_newProcess_p3 (E : zE) (L : Nat) (Q : kx_Rs → wS → Prop) (x1 : Int32) (x2 : Int32) (x3 : Int32) (x4 : Int32) (w : wS) : Prop := kzE E L kt_M491 3 [(0, .ref (w_adr E.2.1 12 0)), (1, .int x1), (2, .int x2), (3, .int x3), (4, .int x4)] [] w Q
def zb_X13_newProcess_p3 (E : zE) (L : Nat) (Q : kx_Rs → wS → Prop) (x1 : Int32) (x2 : Int32) (x3 : Int32) (x4 : Int32) (w : wS) : Prop := (kx_inb x4 (w_n w 12 0 145) = true ∧ (if w_a w 12 0 145 (x4).toNatClampNeg = 0 then (kx_inb x4 (w_n w 12 0 145) = true ∧ (kx_inb (w_i w 12 0 143) (w_n w 12 0 144) = true ∧ (kx_inb x4 (w_n w 12 0 146) = true ∧ (kx_inb x4 (w_n w 12 0 147) = true ∧ (kx_inb x4 (w_n w 12 0 148) = true ∧ (kx_inb x4 (w_n w 12 0 149) = true ∧ (kx_inb x4 (w_n w 12 0 150) = true ∧ (kx_inb x4 (w_n w 12 0 152) = true ∧ (kx_inb x4 (w_n w 12 0 154) = true ∧ (kx_inb x4 (w_n w 12 0 159) = true ∧ (kx_inb x4 (w_n w 12 0 160) = true ∧ (kx_inb x4 (w_n w 12 0 157) = true ∧ (kx_inb x4 (w_n w 12 0 158) = true ∧ zw E (L - 25) kt_M518 [.ref (w_adr E.2.1 12 0), .int 0, .int x3, .int 0, .int 0] (ws_i (ws_a (ws_a (ws_a (ws_a (ws_a (ws_a (ws_a (ws_a (ws_a (ws_a (ws_i (ws_a (ws_i (ws_a (ws_a w 12 0 145 (x4).toNatClampNeg (vp_nar .boolean 1)) 12 0 144 (w_i w 12 0 143).toNatClampNeg x4) 12 0 143 ((w_i w 12 0 143) + 1)) 12 0 146 (x4).toNatClampNeg (w_i w 12 0 129)) 12 0 129 ((w_i w 12 0 129) + 1)) 12 0 147 (x4).toNatClampNeg 0) 12 0 148 (x4).toNatClampNeg x1) 12 0 149 (x4).toNatClampNeg x2) 12 0 150 (x4).toNatClampNeg x2) 12 0 152 (x4).toNatClampNeg 0) 12 0 154 (x4).toNatClampNeg (-1)) 12 0 159 (x4).toNatClampNeg (vp_nar .boolean 0)) 12 0 160 (x4).toNatClampNeg 0) 12 0 157 (x4).toNatClampNeg (-1)) 12 0 158 (x4).toNatClampNeg 0) 12 0 163 (-1)) (wk0 (fun w1 => wle (ws_i (ws_a (ws_a (ws_a (ws_a (ws_a (ws_a (ws_a (ws_a (ws_a (ws_a (ws_i (ws_a (ws_i (ws_a (ws_a w 12 0 145 (x4).toNatClampNeg (vp_nar .boolean 1)) 12 0 144 (w_i w 12 0 143).toNatClampNeg x4) 12 0 143 ((w_i w 12 0 143) + 1)) 12 0 146 (x4).toNatClampNeg (w_i w 12 0 129)) 12 0 129 ((w_i w 12 0 129) + 1)) 12 0 147 (x4).toNatClampNeg 0) 12 0 148 (x4).toNatClampNeg x1) 12 0 149 (x4).toNatClampNeg x2) 12 0 150 (x4).toNatClampNeg x2) 12 0 152 (x4).toNatClampNeg 0) 12 0 154 (x4).toNatClampNeg (-1)) 12 0 159 (x4).toNatClampNeg (vp_nar .boolean 0)) 12 0 160 (x4).toNatClampNeg 0) 12 0 157 (x4).toNatClampNeg (-1)) 12 0 158 (x4).toNatClampNeg 0) 12 0 163 (-1)) w1 → (kx_inb x4 (w_n w1 12 0 151) = true ∧ Q (.inl (some (.int x4))) (ws_a w1 12 0 151 (x4).toNatClampNeg (w_i w1 12 0 163)))) (fun e w => Q (.inr e) w))))))))))))))) else zL_X13_newProcess_p3 E L Q x1 x2 x3 (x4 + 1) w))
theorem zt_X13_newProcess_p3 {E : zE} {L : Nat} {Q : kx_Rs → wS → Prop} {x1 : Int32} {x2 : Int32} {x3 : Int32} {x4 : Int32} {w : wS} (hL : 25 ≤ L) (h : zb_X13_newProcess_p3 E L Q x1 x2 x3 x4 w) : kzE E L kt_M491 3 [(0, .ref (w_adr E.2.1 12 0)), (1, .int x1), (2, .int x2), (3, .int x3), (4, .int x4)] [] w Q := by
  unfold zb_X13_newProcess_p3 at h
  refine kz_aload_n (M := kt_M491) kX13_newProcess_c0.2.2.1 rfl ?_
  refine kz_gfc (M := kt_M491) (x := 4217) (c := 12) (o := 0) kX13_newProcess_c0.2.2.2.1 wf_X13_388 (.inl rfl) ?_
  refine kz_iload (M := kt_M491) kX13_newProcess_c0.2.2.2.2.1 rfl ?_
  refine kz_zald (M := kt_M491) (c := 12) (o := 0) (k := 145) (a := (E.2.1 4217)) kX13_newProcess_c0.2.2.2.2.2.1 ow_12_0_145 oa_12_0_145 ot_2 h (fun h => ?_)
  refine kz_if_eq (M := kt_M491) kX13_newProcess_c0.2.2.2.2.2.2.1 (t := 19) rfl h (fun h => ?_) (fun h => ?_)
  · skip
    refine kz_aload_n (M := kt_M491) kX13_newProcess_c1.2.1 rfl ?_
    refine kz_gfc (M := kt_M491) (x := 4217) (c := 12) (o := 0) kX13_newProcess_c1.2.2.1 wf_X13_388 (.inl rfl) ?_
    refine kz_iload (M := kt_M491) kX13_newProcess_c1.2.2.2.1 rfl ?_
    refine kz_ic (M := kt_M491) 1 kX13_newProcess_c1.2.2.2.2.1 rfl ?_
    refine kz_zast (M := kt_M491) (c := 12) (o := 0) (k := 145) (a := (E.2.1 4217)) kX13_newProcess_c1.2.2.2.2.2.1 ow_12_0_145 oa_12_0_145 ot_2 h (fun h => ?_)
    refine kz_aload_n (M := kt_M491) kX13_newProcess_c1.2.2.2.2.2.2.1 rfl ?_
    refine kz_gfc (M := kt_M491) (x := 4216) (c := 12) (o := 0) kX13_newProcess_c1.2.2.2.2.2.2.2.1 wf_X13_385 (.inl rfl) ?_
    refine kz_aload_n (M := kt_M491) kX13_newProcess_c2.1 rfl ?_
    refine kz_gfiR (M := kt_M491) (c := 12) (o := 0) (w_i w 12 0 143) kX13_newProcess_c2.2.1 wf_X13_1186 (.inl rfl) rd_i_a ?_
    refine kz_iload (M := kt_M491) kX13_newProcess_c2.2.2.1 rfl ?_
    refine kz_iastR (M := kt_M491) (n := w_n w 12 0 144) (c := 12) (o := 0) (k := 144) (a := (E.2.1 4216)) kX13_newProcess_c2.2.2.2.1 ow_12_0_144 oa_12_0_144 ot_0 rd_n_a h (fun h => ?_)
    refine kz_aload_n (M := kt_M491) kX13_newProcess_c2.2.2.2.2.1 rfl ?_
    refine kz_dup (M := kt_M491) kX13_newProcess_c2.2.2.2.2.2.1 rfl ?_
    refine kz_gfiR (M := kt_M491) (c := 12) (o := 0) (w_i w 12 0 143) kX13_newProcess_c2.2.2.2.2.2.2.1 wf_X13_1186 (.inl rfl) (rd_i_a.trans rd_i_a) ?_
    refine kz_ic (M := kt_M491) 1 kX13_newProcess_c2.2.2.2.2.2.2.2.1 rfl ?_
    refine kz_iadd (M := kt_M491) kX13_newProcess_c3.1 ?_
    refine kz_pfi (M := kt_M491) (c := 12) (o := 0) kX13_newProcess_c3.2.1 wq_X13_1186 (.inl rfl) ?_
    refine kz_aload_n (M := kt_M491) kX13_newProcess_c3.2.2.1 rfl ?_
    refine kz_gfc (M := kt_M491) (x := 4218) (c := 12) (o := 0) kX13_newProcess_c3.2.2.2.1 wf_X13_391 (.inl rfl) ?_
    refine kz_iload (M := kt_M491) kX13_newProcess_c3.2.2.2.2.1 rfl ?_
    refine kz_aload_n (M := kt_M491) kX13_newProcess_c3.2.2.2.2.2.1 rfl ?_
    refine kz_gfiR (M := kt_M491) (c := 12) (o := 0) (w_i w 12 0 129) kX13_newProcess_c3.2.2.2.2.2.2.1 wf_X13_1337 (.inl rfl) ((rd_i_i rfl).trans (rd_i_a.trans rd_i_a)) ?_
    refine kz_iastR (M := kt_M491) (n := w_n w 12 0 146) (c := 12) (o := 0) (k := 146) (a := (E.2.1 4218)) kX13_newProcess_c3.2.2.2.2.2.2.2.1 ow_12_0_146 oa_12_0_146 ot_0 (rd_n_i.trans (rd_n_a.trans rd_n_a)) h (fun h => ?_)
    refine kz_aload_n (M := kt_M491) kX13_newProcess_c4.1 rfl ?_
    refine kz_dup (M := kt_M491) kX13_newProcess_c4.2.1 rfl ?_
    refine kz_gfiR (M := kt_M491) (c := 12) (o := 0) (w_i w 12 0 129) kX13_newProcess_c4.2.2.1 wf_X13_1337 (.inl rfl) (rd_i_a.trans ((rd_i_i rfl).trans (rd_i_a.trans rd_i_a))) ?_
    refine kz_ic (M := kt_M491) 1 kX13_newProcess_c4.2.2.2.1 rfl ?_
    refine kz_iadd (M := kt_M491) kX13_newProcess_c4.2.2.2.2.1 ?_
    refine kz_pfi (M := kt_M491) (c := 12) (o := 0) kX13_newProcess_c4.2.2.2.2.2.1 wq_X13_1337 (.inl rfl) ?_
    refine kz_aload_n (M := kt_M491) kX13_newProcess_c4.2.2.2.2.2.2.1 rfl ?_
    refine kz_gfc (M := kt_M491) (x := 4219) (c := 12) (o := 0) kX13_newProcess_c4.2.2.2.2.2.2.2.1 wf_X13_394 (.inl rfl) ?_
    refine kz_iload (M := kt_M491) kX13_newProcess_c5.1 rfl ?_
    refine kz_ic (M := kt_M491) 0 kX13_newProcess_c5.2.1 rfl ?_
    refine kz_iastR (M := kt_M491) (n := w_n w 12 0 147) (c := 12) (o := 0) (k := 147) (a := (E.2.1 4219)) kX13_newProcess_c5.2.2.1 ow_12_0_147 oa_12_0_147 ot_0 (rd_n_i.trans (rd_n_a.trans (rd_n_i.trans (rd_n_a.trans rd_n_a)))) h (fun h => ?_)
    refine kz_aload_n (M := kt_M491) kX13_newProcess_c5.2.2.2.1 rfl ?_
    refine kz_gfc (M := kt_M491) (x := 4220) (c := 12) (o := 0) kX13_newProcess_c5.2.2.2.2.1 wf_X13_397 (.inl rfl) ?_
    refine kz_iload (M := kt_M491) kX13_newProcess_c5.2.2.2.2.2.1 rfl ?_
    refine kz_iload_n (M := kt_M491) kX13_newProcess_c5.2.2.2.2.2.2.1 rfl ?_
    refine kz_iastR (M := kt_M491) (n := w_n w 12 0 148) (c := 12) (o := 0) (k := 148) (a := (E.2.1 4220)) kX13_newProcess_c5.2.2.2.2.2.2.2.1 ow_12_0_148 oa_12_0_148 ot_0 (rd_n_a.trans (rd_n_i.trans (rd_n_a.trans (rd_n_i.trans (rd_n_a.trans rd_n_a))))) h (fun h => ?_)
    refine kz_aload_n (M := kt_M491) kX13_newProcess_c6.1 rfl ?_
    refine kz_gfc (M := kt_M491) (x := 4221) (c := 12) (o := 0) kX13_newProcess_c6.2.1 wf_X13_400 (.inl rfl) ?_
    refine kz_iload (M := kt_M491) kX13_newProcess_c6.2.2.1 rfl ?_
    refine kz_iload_n (M := kt_M491) kX13_newProcess_c6.2.2.2.1 rfl ?_
    refine kz_iastR (M := kt_M491) (n := w_n w 12 0 149) (c := 12) (o := 0) (k := 149) (a := (E.2.1 4221)) kX13_newProcess_c6.2.2.2.2.1 ow_12_0_149 oa_12_0_149 ot_0 (rd_n_a.trans (rd_n_a.trans (rd_n_i.trans (rd_n_a.trans (rd_n_i.trans (rd_n_a.trans rd_n_a)))))) h (fun h => ?_)
    refine kz_aload_n (M := kt_M491) kX13_newProcess_c6.2.2.2.2.2.1 rfl ?_
    refine kz_gfc (M := kt_M491) (x := 4222) (c := 12) (o := 0) kX13_newProcess_c6.2.2.2.2.2.2.1 wf_X13_403 (.inl rfl) ?_
    refine kz_iload (M := kt_M491) kX13_newProcess_c6.2.2.2.2.2.2.2.1 rfl ?_
    refine kz_iload_n (M := kt_M491) kX13_newProcess_c7.1 rfl ?_
    refine kz_iastR (M := kt_M491) (n := w_n w 12 0 150) (c := 12) (o := 0) (k := 150) (a := (E.2.1 4222)) kX13_newProcess_c7.2.1 ow_12_0_150 oa_12_0_150 ot_0 (rd_n_a.trans (rd_n_a.trans (rd_n_a.trans (rd_n_i.trans (rd_n_a.trans (rd_n_i.trans (rd_n_a.trans rd_n_a))))))) h (fun h => ?_)
    refine kz_aload_n (M := kt_M491) kX13_newProcess_c7.2.2.1 rfl ?_
    refine kz_gfc (M := kt_M491) (x := 4224) (c := 12) (o := 0) kX13_newProcess_c7.2.2.2.1 wf_X13_409 (.inl rfl) ?_
    refine kz_iload (M := kt_M491) kX13_newProcess_c7.2.2.2.2.1 rfl ?_
    refine kz_ic (M := kt_M491) 0 kX13_newProcess_c7.2.2.2.2.2.1 rfl ?_
    refine kz_iastR (M := kt_M491) (n := w_n w 12 0 152) (c := 12) (o := 0) (k := 152) (a := (E.2.1 4224)) kX13_newProcess_c7.2.2.2.2.2.2.1 ow_12_0_152 oa_12_0_152 ot_0 (rd_n_a.trans (rd_n_a.trans (rd_n_a.trans (rd_n_a.trans (rd_n_i.trans (rd_n_a.trans (rd_n_i.trans (rd_n_a.trans rd_n_a)))))))) h (fun h => ?_)
    refine kz_aload_n (M := kt_M491) kX13_newProcess_c7.2.2.2.2.2.2.2.1 rfl ?_
    refine kz_gfc (M := kt_M491) (x := 4226) (c := 12) (o := 0) kX13_newProcess_c8.1 wf_X13_415 (.inl rfl) ?_
    refine kz_iload (M := kt_M491) kX13_newProcess_c8.2.1 rfl ?_
    refine kz_ic (M := kt_M491) (-1) kX13_newProcess_c8.2.2.1 rfl ?_
    refine kz_iastR (M := kt_M491) (n := w_n w 12 0 154) (c := 12) (o := 0) (k := 154) (a := (E.2.1 4226)) kX13_newProcess_c8.2.2.2.1 ow_12_0_154 oa_12_0_154 ot_0 (rd_n_a.trans (rd_n_a.trans (rd_n_a.trans (rd_n_a.trans (rd_n_a.trans (rd_n_i.trans (rd_n_a.trans (rd_n_i.trans (rd_n_a.trans rd_n_a))))))))) h (fun h => ?_)
    refine kz_aload_n (M := kt_M491) kX13_newProcess_c8.2.2.2.2.1 rfl ?_
    refine kz_gfc (M := kt_M491) (x := 4231) (c := 12) (o := 0) kX13_newProcess_c8.2.2.2.2.2.1 wf_X13_430 (.inl rfl) ?_
    refine kz_iload (M := kt_M491) kX13_newProcess_c8.2.2.2.2.2.2.1 rfl ?_
    refine kz_ic (M := kt_M491) 0 kX13_newProcess_c8.2.2.2.2.2.2.2.1 rfl ?_
    refine kz_zastR (M := kt_M491) (n := w_n w 12 0 159) (c := 12) (o := 0) (k := 159) (a := (E.2.1 4231)) kX13_newProcess_c9.1 ow_12_0_159 oa_12_0_159 ot_2 (rd_n_a.trans (rd_n_a.trans (rd_n_a.trans (rd_n_a.trans (rd_n_a.trans (rd_n_a.trans (rd_n_i.trans (rd_n_a.trans (rd_n_i.trans (rd_n_a.trans rd_n_a)))))))))) h (fun h => ?_)
    refine kz_aload_n (M := kt_M491) kX13_newProcess_c9.2.1 rfl ?_
    refine kz_gfc (M := kt_M491) (x := 4232) (c := 12) (o := 0) kX13_newProcess_c9.2.2.1 wf_X13_433 (.inl rfl) ?_
    refine kz_iload (M := kt_M491) kX13_newProcess_c9.2.2.2.1 rfl ?_
    refine kz_ic (M := kt_M491) 0 kX13_newProcess_c9.2.2.2.2.1 rfl ?_
    refine kz_iastR (M := kt_M491) (n := w_n w 12 0 160) (c := 12) (o := 0) (k := 160) (a := (E.2.1 4232)) kX13_newProcess_c9.2.2.2.2.2.1 ow_12_0_160 oa_12_0_160 ot_0 (rd_n_a.trans (rd_n_a.trans (rd_n_a.trans (rd_n_a.trans (rd_n_a.trans (rd_n_a.trans (rd_n_a.trans (rd_n_i.trans (rd_n_a.trans (rd_n_i.trans (rd_n_a.trans rd_n_a))))))))))) h (fun h => ?_)
    refine kz_aload_n (M := kt_M491) kX13_newProcess_c9.2.2.2.2.2.2.1 rfl ?_
    refine kz_gfc (M := kt_M491) (x := 4229) (c := 12) (o := 0) kX13_newProcess_c9.2.2.2.2.2.2.2.1 wf_X13_424 (.inl rfl) ?_
    refine kz_iload (M := kt_M491) kX13_newProcess_c10.1 rfl ?_
    refine kz_ic (M := kt_M491) (-1) kX13_newProcess_c10.2.1 rfl ?_
    refine kz_iastR (M := kt_M491) (n := w_n w 12 0 157) (c := 12) (o := 0) (k := 157) (a := (E.2.1 4229)) kX13_newProcess_c10.2.2.1 ow_12_0_157 oa_12_0_157 ot_0 (rd_n_a.trans (rd_n_a.trans (rd_n_a.trans (rd_n_a.trans (rd_n_a.trans (rd_n_a.trans (rd_n_a.trans (rd_n_a.trans (rd_n_i.trans (rd_n_a.trans (rd_n_i.trans (rd_n_a.trans rd_n_a)))))))))))) h (fun h => ?_)
    refine kz_aload_n (M := kt_M491) kX13_newProcess_c10.2.2.2.1 rfl ?_
    refine kz_gfc (M := kt_M491) (x := 4230) (c := 12) (o := 0) kX13_newProcess_c10.2.2.2.2.1 wf_X13_427 (.inl rfl) ?_
    refine kz_iload (M := kt_M491) kX13_newProcess_c10.2.2.2.2.2.1 rfl ?_
    refine kz_ic (M := kt_M491) 0 kX13_newProcess_c10.2.2.2.2.2.2.1 rfl ?_
    refine kz_iastR (M := kt_M491) (n := w_n w 12 0 158) (c := 12) (o := 0) (k := 158) (a := (E.2.1 4230)) kX13_newProcess_c10.2.2.2.2.2.2.2.1 ow_12_0_158 oa_12_0_158 ot_0 (rd_n_a.trans (rd_n_a.trans (rd_n_a.trans (rd_n_a.trans (rd_n_a.trans (rd_n_a.trans (rd_n_a.trans (rd_n_a.trans (rd_n_a.trans (rd_n_i.trans (rd_n_a.trans (rd_n_i.trans (rd_n_a.trans rd_n_a))))))))))))) h (fun h => ?_)
    refine kz_aload_n (M := kt_M491) kX13_newProcess_c11.1 rfl ?_
    refine kz_ic (M := kt_M491) (-1) kX13_newProcess_c11.2.1 rfl ?_
    refine kz_pfi (M := kt_M491) (c := 12) (o := 0) kX13_newProcess_c11.2.2.1 wq_X13_1165 (.inl rfl) ?_
    refine kz_aload_n (M := kt_M491) kX13_newProcess_c11.2.2.2.1 rfl ?_
    refine kz_ic (M := kt_M491) 0 kX13_newProcess_c11.2.2.2.2.1 rfl ?_
    refine kz_iload_n (M := kt_M491) kX13_newProcess_c11.2.2.2.2.2.1 rfl ?_
    refine kz_ic (M := kt_M491) 0 kX13_newProcess_c11.2.2.2.2.2.2.1 rfl ?_
    refine kz_ic (M := kt_M491) 0 kX13_newProcess_c11.2.2.2.2.2.2.2.1 rfl ?_
    refine kz_cv0 (M := kt_M491) (c := 12) (o := 0) (As := [.int 0, .int x3, .int 0, .int 0]) (rest := []) kX13_newProcess_c12.1 wl_X13_1278 wMv_518 rfl (.inl rfl) rfl (Nat.le_trans (Nat.le_of_ble_eq_true rfl) hL) (Nat.le_of_ble_eq_true rfl) (Nat.le_of_ble_eq_true rfl) h (fun w1 hle h => ?_) (fun _ _ _ h => kzx_no rfl h)
    have h := h hle
    refine kz_aload_n (M := kt_M491) kX13_newProcess_c12.2.1 rfl ?_
    refine kz_gfc (M := kt_M491) (x := 4223) (c := 12) (o := 0) kX13_newProcess_c12.2.2.1 wf_X13_406 (.inl rfl) ?_
    refine kz_iload (M := kt_M491) kX13_newProcess_c12.2.2.2.1 rfl ?_
    refine kz_aload_n (M := kt_M491) kX13_newProcess_c12.2.2.2.2.1 rfl ?_
    refine kz_gfi (M := kt_M491) (c := 12) (o := 0) kX13_newProcess_c12.2.2.2.2.2.1 wf_X13_1165 (.inl rfl) ?_
    refine kz_iast (M := kt_M491) (c := 12) (o := 0) (k := 151) (a := (E.2.1 4223)) kX13_newProcess_c12.2.2.2.2.2.2.1 ow_12_0_151 oa_12_0_151 ot_0 h (fun h => ?_)
    refine kz_iload (M := kt_M491) kX13_newProcess_c12.2.2.2.2.2.2.2.1 rfl ?_
    exact kz_iret (M := kt_M491) kX13_newProcess_c13.1 rfl rfl h
  · skip
    refine kz_inc (M := kt_M491) [(0, .ref (w_adr E.2.1 12 0)), (1, .int x1), (2, .int x2), (3, .int x3)] kX13_newProcess_c0.2.2.2.2.2.2.2.1 rfl (Nat.le_of_ble_eq_true rfl) ⟨⟨rfl, rfl, .inl rfl⟩, ⟨⟨rfl, rfl, .inl rfl⟩, ⟨⟨rfl, rfl, .inl rfl⟩, ⟨⟨rfl, rfl, .inr rfl⟩, trivial⟩⟩⟩⟩ rfl ?_
    refine kz_goto (M := kt_M491) kX13_newProcess_c1.1 (t := 3) rfl ?_
    exact kz_weak [(0, .ref (w_adr E.2.1 12 0)), (1, .int x1), (2, .int x2), (3, .int x3), (4, .int (x4 + 1))] ⟨rfl, ⟨rfl, ⟨rfl, ⟨rfl, ⟨rfl, trivial⟩⟩⟩⟩⟩ rfl h
def zb_X13_newProcess_p0 (E : zE) (L : Nat) (Q : kx_Rs → wS → Prop) (x1 : Int32) (x2 : Int32) (x3 : Int32) (w : wS) : Prop := zL_X13_newProcess_p3 E L Q x1 x2 x3 0 w
theorem zt_X13_newProcess_p0 {E : zE} {L : Nat} {Q : kx_Rs → wS → Prop} {x1 : Int32} {x2 : Int32} {x3 : Int32} {w : wS} (hL : 25 ≤ L) (h : zb_X13_newProcess_p0 E L Q x1 x2 x3 w) : kzE E L kt_M491 0 [(0, .ref (w_adr E.2.1 12 0)), (1, .int x1), (2, .int x2), (3, .int x3)] [] w Q := by
  unfold zb_X13_newProcess_p0 at h
  refine kz_ic (M := kt_M491) 0 kX13_newProcess_c0.1 rfl ?_
  refine kz_sti (M := kt_M491) [(0, .ref (w_adr E.2.1 12 0)), (1, .int x1), (2, .int x2), (3, .int x3)] kX13_newProcess_c0.2.1 (Nat.le_of_ble_eq_true rfl) ⟨⟨rfl, rfl, .inl rfl⟩, ⟨⟨rfl, rfl, .inl rfl⟩, ⟨⟨rfl, rfl, .inl rfl⟩, ⟨⟨rfl, rfl, .inr rfl⟩, trivial⟩⟩⟩⟩ rfl ?_
  exact kz_weak [(0, .ref (w_adr E.2.1 12 0)), (1, .int x1), (2, .int x2), (3, .int x3), (4, .int 0)] ⟨rfl, ⟨rfl, ⟨rfl, ⟨rfl, ⟨rfl, trivial⟩⟩⟩⟩⟩ rfl h
def zb_X13_load_p0 (E : zE) (L : Nat) (Q : kx_Rs → wS → Prop) (x1 : Int32) (w : wS) : Prop := (kx_inb x1 (w_n w 12 0 149) = true ∧ (kx_inb x1 (w_n w 12 0 151) = true ∧ Q (.inl none) (ws_i (ws_i (ws_i w 12 0 161 x1) 12 0 162 (w_a w 12 0 149 (x1).toNatClampNeg)) 12 0 163 (w_a w 12 0 151 (x1).toNatClampNeg))))
theorem zt_X13_load_p0 {E : zE} {L : Nat} {Q : kx_Rs → wS → Prop} {x1 : Int32} {w : wS} (hL : 19 ≤ L) (h : zb_X13_load_p0 E L Q x1 w) : kzE E L kt_M460 0 [(0, .ref (w_adr E.2.1 12 0)), (1, .int x1)] [] w Q := by
  unfold zb_X13_load_p0 at h
  refine kz_aload_n (M := kt_M460) kX13_load_c0.1 rfl ?_
  refine kz_iload_n (M := kt_M460) kX13_load_c0.2.1 rfl ?_
  refine kz_pfi (M := kt_M460) (c := 12) (o := 0) kX13_load_c0.2.2.1 wq_X13_1168 (.inl rfl) ?_
  refine kz_aload_n (M := kt_M460) kX13_load_c0.2.2.2.1 rfl ?_
  refine kz_aload_n (M := kt_M460) kX13_load_c0.2.2.2.2.1 rfl ?_
  refine kz_gfc (M := kt_M460) (x := 4221) (c := 12) (o := 0) kX13_load_c0.2.2.2.2.2.1 wf_X13_400 (.inl rfl) ?_
  refine kz_iload_n (M := kt_M460) kX13_load_c0.2.2.2.2.2.2.1 rfl ?_
  refine kz_ialdR (M := kt_M460) (n := w_n w 12 0 149) (c := 12) (o := 0) (k := 149) (a := (E.2.1 4221)) (w_a w 12 0 149 (x1).toNatClampNeg) kX13_load_c0.2.2.2.2.2.2.2.1 ow_12_0_149 oa_12_0_149 ot_0 rd_n_i rd_a_i h (fun h => ?_)
  refine kz_pfi (M := kt_M460) (c := 12) (o := 0) kX13_load_c1.1 wq_X13_1171 (.inl rfl) ?_
  refine kz_aload_n (M := kt_M460) kX13_load_c1.2.1 rfl ?_
  refine kz_aload_n (M := kt_M460) kX13_load_c1.2.2.1 rfl ?_
  refine kz_gfc (M := kt_M460) (x := 4223) (c := 12) (o := 0) kX13_load_c1.2.2.2.1 wf_X13_406 (.inl rfl) ?_
  refine kz_iload_n (M := kt_M460) kX13_load_c1.2.2.2.2.1 rfl ?_
  refine kz_ialdR (M := kt_M460) (n := w_n w 12 0 151) (c := 12) (o := 0) (k := 151) (a := (E.2.1 4223)) (w_a w 12 0 151 (x1).toNatClampNeg) kX13_load_c1.2.2.2.2.2.1 ow_12_0_151 oa_12_0_151 ot_0 (rd_n_i.trans rd_n_i) (rd_a_i.trans rd_a_i) h (fun h => ?_)
  refine kz_pfi (M := kt_M460) (c := 12) (o := 0) kX13_load_c1.2.2.2.2.2.2.1 wq_X13_1165 (.inl rfl) ?_
  exact kz_ret (M := kt_M460) kX13_load_c1.2.2.2.2.2.2.2.1 rfl h
def zL_X13_goOn_p0 (E : zE) (L : Nat) (Q : kx_Rs → wS → Prop) (w : wS) : Prop := kzE E L kt_M420 0 [(0, .ref (w_adr E.2.1 12 0))] [] w Q
def zb_X13_goOn_p320 (E : zE) (L : Nat) (Q : kx_Rs → wS → Prop) (w : wS) : Prop := zL_X13_goOn_p0 E L Q w
theorem zt_X13_goOn_p320 {E : zE} {L : Nat} {Q : kx_Rs → wS → Prop} {w : wS} (hL : 25 ≤ L) (h : zb_X13_goOn_p320 E L Q  w) : kzE E L kt_M420 320 [(0, .ref (w_adr E.2.1 12 0))] [] w Q := by
  unfold zb_X13_goOn_p320 at h
  refine kz_goto (M := kt_M420) kX13_goOn_c20.2.2.2.2.2.2.1 (t := 0) rfl ?_
  exact kz_weak [(0, .ref (w_adr E.2.1 12 0))] ⟨rfl, trivial⟩ rfl h
def zb_X13_goOn_p256 (E : zE) (L : Nat) (Q : kx_Rs → wS → Prop) (x1 : Int32) (w : wS) : Prop := zw E (L - 25) kt_M518 [.ref (w_adr E.2.1 12 0), .int 0, .int x1, .int 0, .int 0] w (wk0 (fun w1 => wle w w1 → zb_X13_goOn_p320 E L Q w1) (fun e w => Q (.inr e) w))
theorem zt_X13_goOn_p256 {E : zE} {L : Nat} {Q : kx_Rs → wS → Prop} {x1 : Int32} {w : wS} (hL : 25 ≤ L) (h : zb_X13_goOn_p256 E L Q x1 w) : kzE E L kt_M420 256 [(0, .ref (w_adr E.2.1 12 0)), (1, .int x1)] [] w Q := by
  unfold zb_X13_goOn_p256 at h
  refine kz_aload_n (M := kt_M420) kX13_goOn_c16.1 rfl ?_
  refine kz_ic (M := kt_M420) 0 kX13_goOn_c16.2.1 rfl ?_
  refine kz_iload_n (M := kt_M420) kX13_goOn_c16.2.2.1 rfl ?_
  refine kz_ic (M := kt_M420) 0 kX13_goOn_c16.2.2.2.1 rfl ?_
  refine kz_ic (M := kt_M420) 0 kX13_goOn_c16.2.2.2.2.1 rfl ?_
  refine kz_cv0 (M := kt_M420) (c := 12) (o := 0) (As := [.int 0, .int x1, .int 0, .int 0]) (rest := []) kX13_goOn_c16.2.2.2.2.2.1 wl_X13_1278 wMv_518 rfl (.inl rfl) rfl (Nat.le_trans (Nat.le_of_ble_eq_true rfl) hL) (Nat.le_of_ble_eq_true rfl) (Nat.le_of_ble_eq_true rfl) h (fun w1 hle h => ?_) (fun _ _ _ h => kzx_no rfl h)
  have h := h hle
  refine kz_goto (M := kt_M420) kX13_goOn_c16.2.2.2.2.2.2.1 (t := 320) rfl ?_
  exact kz_weak [(0, .ref (w_adr E.2.1 12 0))] ⟨rfl, trivial⟩ rfl (zt_X13_goOn_p320 hL  h)
def zb_X13_goOn_p204 (E : zE) (L : Nat) (Q : kx_Rs → wS → Prop) (x1 : Int32) (y0 : Int32) (w : wS) : Prop := ((y0 = 0 ∨ y0 = 1) ∧ (kx_inb x1 (w_n w 12 0 28) = true ∧ zw E (L - 23) kt_M374 [.ref (w_adr E.2.1 12 0), .int (w_a w 12 0 28 (x1).toNatClampNeg)] (ws_i w 12 0 173 y0) (wk0 (fun w1 => wle (ws_i w 12 0 173 y0) w1 → zb_X13_goOn_p320 E L Q (ws_i w1 12 0 173 0)) (fun e w => Q (.inr e) w))))
theorem zt_X13_goOn_p204 {E : zE} {L : Nat} {Q : kx_Rs → wS → Prop} {x1 : Int32} {y0 : Int32} {w : wS} (hL : 25 ≤ L) (h : zb_X13_goOn_p204 E L Q x1 y0 w) : kzE E L kt_M420 204 [(0, .ref (w_adr E.2.1 12 0)), (1, .int x1)] [.int y0, .ref (w_adr E.2.1 12 0)] w Q := by
  unfold zb_X13_goOn_p204 at h
  obtain ⟨h0, h⟩ := h
  refine kz_pfz (M := kt_M420) (c := 12) (o := 0) kX13_goOn_c12.2.2.2.2.1 wq_X13_1310 (.inl rfl) h0 ?_
  refine kz_aload_n (M := kt_M420) kX13_goOn_c12.2.2.2.2.2.1 rfl ?_
  refine kz_aload_n (M := kt_M420) kX13_goOn_c12.2.2.2.2.2.2.1 rfl ?_
  refine kz_gfc (M := kt_M420) (x := 4100) (c := 12) (o := 0) kX13_goOn_c12.2.2.2.2.2.2.2.1 wf_X13_193 (.inl rfl) ?_
  refine kz_iload_n (M := kt_M420) kX13_goOn_c13.1 rfl ?_
  refine kz_ialdR (M := kt_M420) (n := w_n w 12 0 28) (c := 12) (o := 0) (k := 28) (a := (E.2.1 4100)) (w_a w 12 0 28 (x1).toNatClampNeg) kX13_goOn_c13.2.1 ow_12_0_28 oa_12_0_28 ot_0 rd_n_i rd_a_i h (fun h => ?_)
  refine kz_cv0 (M := kt_M420) (c := 12) (o := 0) (As := [.int (w_a w 12 0 28 (x1).toNatClampNeg)]) (rest := []) kX13_goOn_c13.2.2.1 wl_X13_1293 wMv_374 rfl (.inl rfl) rfl (Nat.le_trans (Nat.le_of_ble_eq_true rfl) hL) (Nat.le_of_ble_eq_true rfl) (Nat.le_of_ble_eq_true rfl) h (fun w1 hle h => ?_) (fun _ _ _ h => kzx_no rfl h)
  have h := h hle
  refine kz_aload_n (M := kt_M420) kX13_goOn_c13.2.2.2.1 rfl ?_
  refine kz_ic (M := kt_M420) 0 kX13_goOn_c13.2.2.2.2.1 rfl ?_
  refine kz_pfz (M := kt_M420) (c := 12) (o := 0) kX13_goOn_c13.2.2.2.2.2.1 wq_X13_1310 (.inl rfl) (by decide) ?_
  refine kz_goto (M := kt_M420) kX13_goOn_c13.2.2.2.2.2.2.1 (t := 320) rfl ?_
  exact kz_weak [(0, .ref (w_adr E.2.1 12 0))] ⟨rfl, trivial⟩ rfl (zt_X13_goOn_p320 hL  h)
def zb_X13_goOn_p185 (E : zE) (L : Nat) (Q : kx_Rs → wS → Prop) (w : wS) : Prop := Q (.inl none) w
theorem zt_X13_goOn_p185 {E : zE} {L : Nat} {Q : kx_Rs → wS → Prop} {w : wS} (hL : 25 ≤ L) (h : zb_X13_goOn_p185 E L Q  w) : kzE E L kt_M420 185 [(0, .ref (w_adr E.2.1 12 0))] [] w Q := by
  unfold zb_X13_goOn_p185 at h
  exact kz_ret (M := kt_M420) kX13_goOn_c11.2.1 rfl h
def zb_X13_goOn_p112 (E : zE) (L : Nat) (Q : kx_Rs → wS → Prop) (x1 : Int32) (w : wS) : Prop := zw E (L - 25) kt_M518 [.ref (w_adr E.2.1 12 0), .int 1, .int x1, .int 0, .int 0] w (wk0 (fun w1 => wle w w1 → (kx_inb x1 (w_n w1 12 0 29) = true ∧ zw E (L - 25) kt_M518 [.ref (w_adr E.2.1 12 0), .int 0, .int (w_a w1 12 0 29 (x1).toNatClampNeg), .int 0, .int 0] w1 (wk0 (fun w3 => wle w1 w3 → zb_X13_goOn_p320 E L Q w3) (fun e w => Q (.inr e) w)))) (fun e w => Q (.inr e) w))
theorem zt_X13_goOn_p112 {E : zE} {L : Nat} {Q : kx_Rs → wS → Prop} {x1 : Int32} {w : wS} (hL : 25 ≤ L) (h : zb_X13_goOn_p112 E L Q x1 w) : kzE E L kt_M420 112 [(0, .ref (w_adr E.2.1 12 0)), (1, .int x1)] [] w Q := by
  unfold zb_X13_goOn_p112 at h
  refine kz_aload_n (M := kt_M420) kX13_goOn_c5.2.2.2.2.2.1 rfl ?_
  refine kz_ic (M := kt_M420) 1 kX13_goOn_c5.2.2.2.2.2.2.1 rfl ?_
  refine kz_iload_n (M := kt_M420) kX13_goOn_c5.2.2.2.2.2.2.2.1 rfl ?_
  refine kz_ic (M := kt_M420) 0 kX13_goOn_c6.1 rfl ?_
  refine kz_ic (M := kt_M420) 0 kX13_goOn_c6.2.1 rfl ?_
  refine kz_cv0 (M := kt_M420) (c := 12) (o := 0) (As := [.int 1, .int x1, .int 0, .int 0]) (rest := []) kX13_goOn_c6.2.2.1 wl_X13_1278 wMv_518 rfl (.inl rfl) rfl (Nat.le_trans (Nat.le_of_ble_eq_true rfl) hL) (Nat.le_of_ble_eq_true rfl) (Nat.le_of_ble_eq_true rfl) h (fun w1 hle h => ?_) (fun _ _ _ h => kzx_no rfl h)
  have h := h hle
  refine kz_aload_n (M := kt_M420) kX13_goOn_c6.2.2.2.1 rfl ?_
  refine kz_ic (M := kt_M420) 0 kX13_goOn_c6.2.2.2.2.1 rfl ?_
  refine kz_aload_n (M := kt_M420) kX13_goOn_c6.2.2.2.2.2.1 rfl ?_
  refine kz_gfc (M := kt_M420) (x := 4101) (c := 12) (o := 0) kX13_goOn_c6.2.2.2.2.2.2.1 wf_X13_196 (.inl rfl) ?_
  refine kz_iload_n (M := kt_M420) kX13_goOn_c6.2.2.2.2.2.2.2.1 rfl ?_
  refine kz_iald (M := kt_M420) (c := 12) (o := 0) (k := 29) (a := (E.2.1 4101)) kX13_goOn_c7.1 ow_12_0_29 oa_12_0_29 ot_0 h (fun h => ?_)
  refine kz_ic (M := kt_M420) 0 kX13_goOn_c7.2.1 rfl ?_
  refine kz_ic (M := kt_M420) 0 kX13_goOn_c7.2.2.1 rfl ?_
  refine kz_cv0 (M := kt_M420) (c := 12) (o := 0) (As := [.int 0, .int (w_a w1 12 0 29 (x1).toNatClampNeg), .int 0, .int 0]) (rest := []) kX13_goOn_c7.2.2.2.1 wl_X13_1278 wMv_518 rfl (.inl rfl) rfl (Nat.le_trans (Nat.le_of_ble_eq_true rfl) hL) (Nat.le_of_ble_eq_true rfl) (Nat.le_of_ble_eq_true rfl) h (fun w3 hle h => ?_) (fun _ _ _ h => kzx_no rfl h)
  have h := h hle
  refine kz_goto (M := kt_M420) kX13_goOn_c7.2.2.2.2.1 (t := 320) rfl ?_
  exact kz_weak [(0, .ref (w_adr E.2.1 12 0))] ⟨rfl, trivial⟩ rfl (zt_X13_goOn_p320 hL  h)
def zb_X13_goOn_p0 (E : zE) (L : Nat) (Q : kx_Rs → wS → Prop) (w : wS) : Prop := (if w_i w 12 0 163 < 0 then Q (.inl none) w else zw E (L - 22) kt_M403 [.ref (w_adr E.2.1 12 0), .int (w_i w 12 0 163), .int 1] w (wk1 (fun v2 w1 => wle w w1 → zw E (L - 22) kt_M403 [.ref (w_adr E.2.1 12 0), .int (w_i w1 12 0 163), .int 0] w1 (wk1 (fun v4 w3 => wle w1 w3 → (if v4 = 0 then (kx_inb v2 (w_n w3 12 0 26) = true ∧ (if ¬ w_a w3 12 0 26 (v2).toNatClampNeg = 1 then (kx_inb v2 (w_n w3 12 0 26) = true ∧ (if ¬ w_a w3 12 0 26 (v2).toNatClampNeg = 10 then zb_X13_goOn_p185 E L Q w3 else (kx_inb v2 (w_n w3 12 0 28) = true ∧ (if 0 ≤ w_a w3 12 0 28 (v2).toNatClampNeg then zb_X13_goOn_p185 E L Q w3 else zw E (L - 21) kt_M511 [.ref (w_adr E.2.1 12 0)] w3 (wk0 (fun w5 => wle w3 w5 → (kx_inb v2 (w_n w5 12 0 29) = true ∧ (if w_a w5 12 0 29 (v2).toNatClampNeg < 0 then zb_X13_goOn_p320 E L Q w5 else (kx_inb v2 (w_n w5 12 0 29) = true ∧ zw E (L - 25) kt_M518 [.ref (w_adr E.2.1 12 0), .int 2, .int (w_a w5 12 0 29 (v2).toNatClampNeg), .int 0, .int 0] w5 (wk0 (fun w7 => wle w5 w7 → zb_X13_goOn_p320 E L Q w7) (fun e w => Q (.inr e) w)))))) (fun e w => Q (.inr e) w)))))) else zw E (L - 21) kt_M511 [.ref (w_adr E.2.1 12 0)] w3 (wk0 (fun w9 => wle w3 w9 → (kx_inb v2 (w_n w9 12 0 28) = true ∧ zw E (L - 23) kt_M384 [.ref (w_adr E.2.1 12 0), .int (w_a w9 12 0 28 (v2).toNatClampNeg)] w9 (wk0 (fun w11 => wle w9 w11 → (if ¬ v2 = w_i w11 12 0 43 then zb_X13_goOn_p112 E L Q v2 w11 else (if w_i w11 12 0 161 < 0 then zb_X13_goOn_p112 E L Q v2 w11 else (kx_inb (w_i w11 12 0 161) (w_n w11 12 0 146) = true ∧ (if ¬ w_a w11 12 0 146 (w_i w11 12 0 161).toNatClampNeg = 0 then zb_X13_goOn_p112 E L Q v2 w11 else zb_X13_goOn_p112 E L Q v2 (ws_i w11 12 0 125 1)))))) (fun e w => Q (.inr e) w)))) (fun e w => Q (.inr e) w)))) else (if v4 = 1 then zw E (L - 21) kt_M511 [.ref (w_adr E.2.1 12 0)] w3 (wk0 (fun w13 => wle w3 w13 → (if ¬ v2 = w_i w13 12 0 43 then zb_X13_goOn_p204 E L Q v2 0 w13 else zb_X13_goOn_p204 E L Q v2 1 w13)) (fun e w => Q (.inr e) w)) else (if v4 = 2 then (kx_inb v2 (w_n w3 12 0 32) = true ∧ (if w_a w3 12 0 32 (v2).toNatClampNeg < 0 then zw E (L - 21) kt_M511 [.ref (w_adr E.2.1 12 0)] w3 (wk0 (fun w15 => wle w3 w15 → zb_X13_goOn_p256 E L Q v2 w15) (fun e w => Q (.inr e) w)) else (kx_inb v2 (w_n w3 12 0 32) = true ∧ zw E (L - 23) kt_M402 [.ref (w_adr E.2.1 12 0), .int (w_i w3 12 0 163), .int 1, .int (w_a w3 12 0 32 (v2).toNatClampNeg)] w3 (wk0 (fun w17 => wle w3 w17 → zb_X13_goOn_p256 E L Q v2 w17) (fun e w => Q (.inr e) w))))) else (if v4 = 3 then zw E (L - 22) kt_M403 [.ref (w_adr E.2.1 12 0), .int (w_i w3 12 0 163), .int 2] w3 (wk1 (fun v20 w19 => wle w3 w19 → zw E (L - 21) kt_M511 [.ref (w_adr E.2.1 12 0)] w19 (wk0 (fun w21 => wle w19 w21 → (kx_inb (w_i w21 12 0 161) (w_n w21 12 0 160) = true ∧ (kx_inb (w_i w21 12 0 161) (w_n w21 12 0 160) = true ∧ zw E (L - 24) kt_M587 [.ref (w_adr E.2.1 12 0), .int v2, .int (w_i w21 12 0 162)] (ws_a w21 12 0 160 (w_i w21 12 0 161).toNatClampNeg ((w_a w21 12 0 160 (w_i w21 12 0 161).toNatClampNeg) - 1)) (wk0 (fun w23 => wle (ws_a w21 12 0 160 (w_i w21 12 0 161).toNatClampNeg ((w_a w21 12 0 160 (w_i w21 12 0 161).toNatClampNeg) - 1)) w23 → zw E (L - 21) kt_M416 [.ref (w_adr E.2.1 12 0), .int (w_i w23 12 0 162)] w23 (wk0 (fun w25 => wle w23 w25 → zb_X13_goOn_p320 E L Q (ws_i w25 12 0 162 v20)) (fun e w => Q (.inr e) w))) (fun e w => Q (.inr e) w))))) (fun e w => Q (.inr e) w))) (fun e w => Q (.inr e) w)) else Q (.inl none) w3))))) (fun e w => Q (.inr e) w))) (fun e w => Q (.inr e) w)))
theorem zt_X13_goOn_p0 {E : zE} {L : Nat} {Q : kx_Rs → wS → Prop} {w : wS} (hL : 25 ≤ L) (h : zb_X13_goOn_p0 E L Q  w) : kzE E L kt_M420 0 [(0, .ref (w_adr E.2.1 12 0))] [] w Q := by
  unfold zb_X13_goOn_p0 at h
  refine kz_aload_n (M := kt_M420) kX13_goOn_c0.1 rfl ?_
  refine kz_gfi (M := kt_M420) (c := 12) (o := 0) kX13_goOn_c0.2.1 wf_X13_1165 (.inl rfl) ?_
  refine kz_if_lt (M := kt_M420) kX13_goOn_c0.2.2.1 (t := 323) rfl h (fun h => ?_) (fun h => ?_)
  · skip
    exact kz_ret (M := kt_M420) kX13_goOn_c20.2.2.2.2.2.2.2.1 rfl h
  · skip
    refine kz_aload_n (M := kt_M420) kX13_goOn_c0.2.2.2.1 rfl ?_
    refine kz_aload_n (M := kt_M420) kX13_goOn_c0.2.2.2.2.1 rfl ?_
    refine kz_gfi (M := kt_M420) (c := 12) (o := 0) kX13_goOn_c0.2.2.2.2.2.1 wf_X13_1165 (.inl rfl) ?_
    refine kz_ic (M := kt_M420) 1 kX13_goOn_c0.2.2.2.2.2.2.1 rfl ?_
    refine kz_cv1 (M := kt_M420) (c := 12) (o := 0) (As := [.int (w_i w 12 0 163), .int 1]) (rest := []) kX13_goOn_c0.2.2.2.2.2.2.2.1 wl_X13_1155 wMv_403 rfl (.inl rfl) rfl (Nat.le_trans (Nat.le_of_ble_eq_true rfl) hL) (Nat.le_of_ble_eq_true rfl) (Nat.le_of_ble_eq_true rfl) h (fun v2 w1 hle h => ?_) (fun _ _ _ h => kzx_no rfl h)
    have h := h hle
    refine kz_sti_n (M := kt_M420) [(0, .ref (w_adr E.2.1 12 0))] kX13_goOn_c1.1 (Nat.le_of_ble_eq_true rfl) ⟨⟨rfl, rfl, .inr rfl⟩, trivial⟩ rfl ?_
    refine kz_aload_n (M := kt_M420) kX13_goOn_c1.2.1 rfl ?_
    refine kz_aload_n (M := kt_M420) kX13_goOn_c1.2.2.1 rfl ?_
    refine kz_gfi (M := kt_M420) (c := 12) (o := 0) kX13_goOn_c1.2.2.2.1 wf_X13_1165 (.inl rfl) ?_
    refine kz_ic (M := kt_M420) 0 kX13_goOn_c1.2.2.2.2.1 rfl ?_
    refine kz_cv1 (M := kt_M420) (c := 12) (o := 0) (As := [.int (w_i w1 12 0 163), .int 0]) (rest := []) kX13_goOn_c1.2.2.2.2.2.1 wl_X13_1155 wMv_403 rfl (.inl rfl) rfl (Nat.le_trans (Nat.le_of_ble_eq_true rfl) hL) (Nat.le_of_ble_eq_true rfl) (Nat.le_of_ble_eq_true rfl) h (fun v4 w3 hle h => ?_) (fun _ _ _ h => kzx_no rfl h)
    have h := h hle
    refine kz_tsw (M := kt_M420) [(0, 56), (1, 186), (2, 225), (3, 267)] [_, _, _, _] 319 dX13_goOn_p26 (by decide +kernel) h ⟨fun h => ?_, fun h => ?_, fun h => ?_, fun h => ?_, trivial⟩ (fun h => ?_)
    · skip
      refine kz_aload_n (M := kt_M420) kX13_goOn_c1.2.2.2.2.2.2.2.1 rfl ?_
      refine kz_gfc (M := kt_M420) (x := 4098) (c := 12) (o := 0) kX13_goOn_c2.1 wf_X13_187 (.inl rfl) ?_
      refine kz_iload_n (M := kt_M420) kX13_goOn_c2.2.1 rfl ?_
      refine kz_iald (M := kt_M420) (c := 12) (o := 0) (k := 26) (a := (E.2.1 4098)) kX13_goOn_c2.2.2.1 ow_12_0_26 oa_12_0_26 ot_0 h (fun h => ?_)
      refine kz_ic (M := kt_M420) 1 kX13_goOn_c2.2.2.2.1 rfl ?_
      refine kz_icmp_ne (M := kt_M420) kX13_goOn_c2.2.2.2.2.1 (t := 136) rfl h (fun h => ?_) (fun h => ?_)
      · skip
        refine kz_aload_n (M := kt_M420) kX13_goOn_c7.2.2.2.2.2.1 rfl ?_
        refine kz_gfc (M := kt_M420) (x := 4098) (c := 12) (o := 0) kX13_goOn_c7.2.2.2.2.2.2.1 wf_X13_187 (.inl rfl) ?_
        refine kz_iload_n (M := kt_M420) kX13_goOn_c7.2.2.2.2.2.2.2.1 rfl ?_
        refine kz_iald (M := kt_M420) (c := 12) (o := 0) (k := 26) (a := (E.2.1 4098)) kX13_goOn_c8.1 ow_12_0_26 oa_12_0_26 ot_0 h (fun h => ?_)
        refine kz_bi (M := kt_M420) 10 kX13_goOn_c8.2.1 rfl ?_
        refine kz_icmp_ne (M := kt_M420) kX13_goOn_c8.2.2.1 (t := 185) rfl h (fun h => ?_) (fun h => ?_)
        · skip
          exact kz_weak [(0, .ref (w_adr E.2.1 12 0))] ⟨rfl, trivial⟩ rfl (zt_X13_goOn_p185 hL  h)
        · skip
          refine kz_aload_n (M := kt_M420) kX13_goOn_c8.2.2.2.1 rfl ?_
          refine kz_gfc (M := kt_M420) (x := 4100) (c := 12) (o := 0) kX13_goOn_c8.2.2.2.2.1 wf_X13_193 (.inl rfl) ?_
          refine kz_iload_n (M := kt_M420) kX13_goOn_c8.2.2.2.2.2.1 rfl ?_
          refine kz_iald (M := kt_M420) (c := 12) (o := 0) (k := 28) (a := (E.2.1 4100)) kX13_goOn_c8.2.2.2.2.2.2.1 ow_12_0_28 oa_12_0_28 ot_0 h (fun h => ?_)
          refine kz_if_ge (M := kt_M420) kX13_goOn_c8.2.2.2.2.2.2.2.1 (t := 185) rfl h (fun h => ?_) (fun h => ?_)
          · skip
            exact kz_weak [(0, .ref (w_adr E.2.1 12 0))] ⟨rfl, trivial⟩ rfl (zt_X13_goOn_p185 hL  h)
          · skip
            refine kz_aload_n (M := kt_M420) kX13_goOn_c9.1 rfl ?_
            refine kz_cv0 (M := kt_M420) (c := 12) (o := 0) (As := []) (rest := []) kX13_goOn_c9.2.1 wl_X13_1290 wMv_511 rfl (.inl rfl) rfl (Nat.le_trans (Nat.le_of_ble_eq_true rfl) hL) (Nat.le_of_ble_eq_true rfl) (Nat.le_of_ble_eq_true rfl) h (fun w5 hle h => ?_) (fun _ _ _ h => kzx_no rfl h)
            have h := h hle
            refine kz_aload_n (M := kt_M420) kX13_goOn_c9.2.2.1 rfl ?_
            refine kz_gfc (M := kt_M420) (x := 4101) (c := 12) (o := 0) kX13_goOn_c9.2.2.2.1 wf_X13_196 (.inl rfl) ?_
            refine kz_iload_n (M := kt_M420) kX13_goOn_c9.2.2.2.2.1 rfl ?_
            refine kz_iald (M := kt_M420) (c := 12) (o := 0) (k := 29) (a := (E.2.1 4101)) kX13_goOn_c9.2.2.2.2.2.1 ow_12_0_29 oa_12_0_29 ot_0 h (fun h => ?_)
            refine kz_if_lt (M := kt_M420) kX13_goOn_c9.2.2.2.2.2.2.1 (t := 320) rfl h (fun h => ?_) (fun h => ?_)
            · skip
              exact kz_weak [(0, .ref (w_adr E.2.1 12 0))] ⟨rfl, trivial⟩ rfl (zt_X13_goOn_p320 hL  h)
            · skip
              refine kz_aload_n (M := kt_M420) kX13_goOn_c9.2.2.2.2.2.2.2.1 rfl ?_
              refine kz_ic (M := kt_M420) 2 kX13_goOn_c10.1 rfl ?_
              refine kz_aload_n (M := kt_M420) kX13_goOn_c10.2.1 rfl ?_
              refine kz_gfc (M := kt_M420) (x := 4101) (c := 12) (o := 0) kX13_goOn_c10.2.2.1 wf_X13_196 (.inl rfl) ?_
              refine kz_iload_n (M := kt_M420) kX13_goOn_c10.2.2.2.1 rfl ?_
              refine kz_iald (M := kt_M420) (c := 12) (o := 0) (k := 29) (a := (E.2.1 4101)) kX13_goOn_c10.2.2.2.2.1 ow_12_0_29 oa_12_0_29 ot_0 h (fun h => ?_)
              refine kz_ic (M := kt_M420) 0 kX13_goOn_c10.2.2.2.2.2.1 rfl ?_
              refine kz_ic (M := kt_M420) 0 kX13_goOn_c10.2.2.2.2.2.2.1 rfl ?_
              refine kz_cv0 (M := kt_M420) (c := 12) (o := 0) (As := [.int 2, .int (w_a w5 12 0 29 (v2).toNatClampNeg), .int 0, .int 0]) (rest := []) kX13_goOn_c10.2.2.2.2.2.2.2.1 wl_X13_1278 wMv_518 rfl (.inl rfl) rfl (Nat.le_trans (Nat.le_of_ble_eq_true rfl) hL) (Nat.le_of_ble_eq_true rfl) (Nat.le_of_ble_eq_true rfl) h (fun w7 hle h => ?_) (fun _ _ _ h => kzx_no rfl h)
              have h := h hle
              refine kz_goto (M := kt_M420) kX13_goOn_c11.1 (t := 320) rfl ?_
              exact kz_weak [(0, .ref (w_adr E.2.1 12 0))] ⟨rfl, trivial⟩ rfl (zt_X13_goOn_p320 hL  h)
      · skip
        refine kz_aload_n (M := kt_M420) kX13_goOn_c2.2.2.2.2.2.1 rfl ?_
        refine kz_cv0 (M := kt_M420) (c := 12) (o := 0) (As := []) (rest := []) kX13_goOn_c2.2.2.2.2.2.2.1 wl_X13_1290 wMv_511 rfl (.inl rfl) rfl (Nat.le_trans (Nat.le_of_ble_eq_true rfl) hL) (Nat.le_of_ble_eq_true rfl) (Nat.le_of_ble_eq_true rfl) h (fun w9 hle h => ?_) (fun _ _ _ h => kzx_no rfl h)
        have h := h hle
        refine kz_aload_n (M := kt_M420) kX13_goOn_c2.2.2.2.2.2.2.2.1 rfl ?_
        refine kz_aload_n (M := kt_M420) kX13_goOn_c3.1 rfl ?_
        refine kz_gfc (M := kt_M420) (x := 4100) (c := 12) (o := 0) kX13_goOn_c3.2.1 wf_X13_193 (.inl rfl) ?_
        refine kz_iload_n (M := kt_M420) kX13_goOn_c3.2.2.1 rfl ?_
        refine kz_iald (M := kt_M420) (c := 12) (o := 0) (k := 28) (a := (E.2.1 4100)) kX13_goOn_c3.2.2.2.1 ow_12_0_28 oa_12_0_28 ot_0 h (fun h => ?_)
        refine kz_cv0 (M := kt_M420) (c := 12) (o := 0) (As := [.int (w_a w9 12 0 28 (v2).toNatClampNeg)]) (rest := []) kX13_goOn_c3.2.2.2.2.1 wl_X13_1275 wMv_384 rfl (.inl rfl) rfl (Nat.le_trans (Nat.le_of_ble_eq_true rfl) hL) (Nat.le_of_ble_eq_true rfl) (Nat.le_of_ble_eq_true rfl) h (fun w11 hle h => ?_) (fun _ _ _ h => kzx_no rfl h)
        have h := h hle
        refine kz_iload_n (M := kt_M420) kX13_goOn_c3.2.2.2.2.2.1 rfl ?_
        refine kz_aload_n (M := kt_M420) kX13_goOn_c3.2.2.2.2.2.2.1 rfl ?_
        refine kz_gfi (M := kt_M420) (c := 12) (o := 0) kX13_goOn_c3.2.2.2.2.2.2.2.1 wf_X13_713 (.inl rfl) ?_
        refine kz_icmp_ne (M := kt_M420) kX13_goOn_c4.1 (t := 112) rfl h (fun h => ?_) (fun h => ?_)
        · skip
          exact kz_weak [(0, .ref (w_adr E.2.1 12 0)), (1, .int v2)] ⟨rfl, ⟨rfl, trivial⟩⟩ rfl (zt_X13_goOn_p112 hL  h)
        · skip
          refine kz_aload_n (M := kt_M420) kX13_goOn_c4.2.1 rfl ?_
          refine kz_gfi (M := kt_M420) (c := 12) (o := 0) kX13_goOn_c4.2.2.1 wf_X13_1168 (.inl rfl) ?_
          refine kz_if_lt (M := kt_M420) kX13_goOn_c4.2.2.2.1 (t := 112) rfl h (fun h => ?_) (fun h => ?_)
          · skip
            exact kz_weak [(0, .ref (w_adr E.2.1 12 0)), (1, .int v2)] ⟨rfl, ⟨rfl, trivial⟩⟩ rfl (zt_X13_goOn_p112 hL  h)
          · skip
            refine kz_aload_n (M := kt_M420) kX13_goOn_c4.2.2.2.2.1 rfl ?_
            refine kz_gfc (M := kt_M420) (x := 4218) (c := 12) (o := 0) kX13_goOn_c4.2.2.2.2.2.1 wf_X13_391 (.inl rfl) ?_
            refine kz_aload_n (M := kt_M420) kX13_goOn_c4.2.2.2.2.2.2.1 rfl ?_
            refine kz_gfi (M := kt_M420) (c := 12) (o := 0) kX13_goOn_c4.2.2.2.2.2.2.2.1 wf_X13_1168 (.inl rfl) ?_
            refine kz_iald (M := kt_M420) (c := 12) (o := 0) (k := 146) (a := (E.2.1 4218)) kX13_goOn_c5.1 ow_12_0_146 oa_12_0_146 ot_0 h (fun h => ?_)
            refine kz_if_ne (M := kt_M420) kX13_goOn_c5.2.1 (t := 112) rfl h (fun h => ?_) (fun h => ?_)
            · skip
              exact kz_weak [(0, .ref (w_adr E.2.1 12 0)), (1, .int v2)] ⟨rfl, ⟨rfl, trivial⟩⟩ rfl (zt_X13_goOn_p112 hL  h)
            · skip
              refine kz_aload_n (M := kt_M420) kX13_goOn_c5.2.2.1 rfl ?_
              refine kz_ic (M := kt_M420) 1 kX13_goOn_c5.2.2.2.1 rfl ?_
              refine kz_pfz (M := kt_M420) (c := 12) (o := 0) kX13_goOn_c5.2.2.2.2.1 wq_X13_1313 (.inl rfl) (by decide) ?_
              exact kz_weak [(0, .ref (w_adr E.2.1 12 0)), (1, .int v2)] ⟨rfl, ⟨rfl, trivial⟩⟩ rfl (zt_X13_goOn_p112 hL  h)
    · skip
      refine kz_aload_n (M := kt_M420) kX13_goOn_c11.2.2.1 rfl ?_
      refine kz_cv0 (M := kt_M420) (c := 12) (o := 0) (As := []) (rest := []) kX13_goOn_c11.2.2.2.1 wl_X13_1290 wMv_511 rfl (.inl rfl) rfl (Nat.le_trans (Nat.le_of_ble_eq_true rfl) hL) (Nat.le_of_ble_eq_true rfl) (Nat.le_of_ble_eq_true rfl) h (fun w13 hle h => ?_) (fun _ _ _ h => kzx_no rfl h)
      have h := h hle
      refine kz_aload_n (M := kt_M420) kX13_goOn_c11.2.2.2.2.1 rfl ?_
      refine kz_iload_n (M := kt_M420) kX13_goOn_c11.2.2.2.2.2.1 rfl ?_
      refine kz_aload_n (M := kt_M420) kX13_goOn_c11.2.2.2.2.2.2.1 rfl ?_
      refine kz_gfi (M := kt_M420) (c := 12) (o := 0) kX13_goOn_c11.2.2.2.2.2.2.2.1 wf_X13_713 (.inl rfl) ?_
      refine kz_icmp_ne (M := kt_M420) kX13_goOn_c12.1 (t := 203) rfl h (fun h => ?_) (fun h => ?_)
      · skip
        refine kz_ic (M := kt_M420) 0 kX13_goOn_c12.2.2.2.1 rfl ?_
        exact kz_weak [(0, .ref (w_adr E.2.1 12 0)), (1, .int v2)] ⟨rfl, ⟨rfl, trivial⟩⟩ rfl (zt_X13_goOn_p204 hL  h)
      · skip
        refine kz_ic (M := kt_M420) 1 kX13_goOn_c12.2.1 rfl ?_
        refine kz_goto (M := kt_M420) kX13_goOn_c12.2.2.1 (t := 204) rfl ?_
        exact kz_weak [(0, .ref (w_adr E.2.1 12 0)), (1, .int v2)] ⟨rfl, ⟨rfl, trivial⟩⟩ rfl (zt_X13_goOn_p204 hL  h)
    · skip
      refine kz_aload_n (M := kt_M420) kX13_goOn_c13.2.2.2.2.2.2.2.1 rfl ?_
      refine kz_gfc (M := kt_M420) (x := 4104) (c := 12) (o := 0) kX13_goOn_c14.1 wf_X13_205 (.inl rfl) ?_
      refine kz_iload_n (M := kt_M420) kX13_goOn_c14.2.1 rfl ?_
      refine kz_iald (M := kt_M420) (c := 12) (o := 0) (k := 32) (a := (E.2.1 4104)) kX13_goOn_c14.2.2.1 ow_12_0_32 oa_12_0_32 ot_0 h (fun h => ?_)
      refine kz_if_lt (M := kt_M420) kX13_goOn_c14.2.2.2.1 (t := 252) rfl h (fun h => ?_) (fun h => ?_)
      · skip
        refine kz_aload_n (M := kt_M420) kX13_goOn_c15.2.2.2.2.2.2.1 rfl ?_
        refine kz_cv0 (M := kt_M420) (c := 12) (o := 0) (As := []) (rest := []) kX13_goOn_c15.2.2.2.2.2.2.2.1 wl_X13_1290 wMv_511 rfl (.inl rfl) rfl (Nat.le_trans (Nat.le_of_ble_eq_true rfl) hL) (Nat.le_of_ble_eq_true rfl) (Nat.le_of_ble_eq_true rfl) h (fun w15 hle h => ?_) (fun _ _ _ h => kzx_no rfl h)
        have h := h hle
        exact kz_weak [(0, .ref (w_adr E.2.1 12 0)), (1, .int v2)] ⟨rfl, ⟨rfl, trivial⟩⟩ rfl (zt_X13_goOn_p256 hL  h)
      · skip
        refine kz_aload_n (M := kt_M420) kX13_goOn_c14.2.2.2.2.1 rfl ?_
        refine kz_aload_n (M := kt_M420) kX13_goOn_c14.2.2.2.2.2.1 rfl ?_
        refine kz_gfi (M := kt_M420) (c := 12) (o := 0) kX13_goOn_c14.2.2.2.2.2.2.1 wf_X13_1165 (.inl rfl) ?_
        refine kz_ic (M := kt_M420) 1 kX13_goOn_c14.2.2.2.2.2.2.2.1 rfl ?_
        refine kz_aload_n (M := kt_M420) kX13_goOn_c15.1 rfl ?_
        refine kz_gfc (M := kt_M420) (x := 4104) (c := 12) (o := 0) kX13_goOn_c15.2.1 wf_X13_205 (.inl rfl) ?_
        refine kz_iload_n (M := kt_M420) kX13_goOn_c15.2.2.1 rfl ?_
        refine kz_iald (M := kt_M420) (c := 12) (o := 0) (k := 32) (a := (E.2.1 4104)) kX13_goOn_c15.2.2.2.1 ow_12_0_32 oa_12_0_32 ot_0 h (fun h => ?_)
        refine kz_cv0 (M := kt_M420) (c := 12) (o := 0) (As := [.int (w_i w3 12 0 163), .int 1, .int (w_a w3 12 0 32 (v2).toNatClampNeg)]) (rest := []) kX13_goOn_c15.2.2.2.2.1 wl_X13_1162 wMv_402 rfl (.inl rfl) rfl (Nat.le_trans (Nat.le_of_ble_eq_true rfl) hL) (Nat.le_of_ble_eq_true rfl) (Nat.le_of_ble_eq_true rfl) h (fun w17 hle h => ?_) (fun _ _ _ h => kzx_no rfl h)
        have h := h hle
        refine kz_goto (M := kt_M420) kX13_goOn_c15.2.2.2.2.2.1 (t := 256) rfl ?_
        exact kz_weak [(0, .ref (w_adr E.2.1 12 0)), (1, .int v2)] ⟨rfl, ⟨rfl, trivial⟩⟩ rfl (zt_X13_goOn_p256 hL  h)
    · skip
      refine kz_aload_n (M := kt_M420) kX13_goOn_c16.2.2.2.2.2.2.2.1 rfl ?_
      refine kz_aload_n (M := kt_M420) kX13_goOn_c17.1 rfl ?_
      refine kz_gfi (M := kt_M420) (c := 12) (o := 0) kX13_goOn_c17.2.1 wf_X13_1165 (.inl rfl) ?_
      refine kz_ic (M := kt_M420) 2 kX13_goOn_c17.2.2.1 rfl ?_
      refine kz_cv1 (M := kt_M420) (c := 12) (o := 0) (As := [.int (w_i w3 12 0 163), .int 2]) (rest := []) kX13_goOn_c17.2.2.2.1 wl_X13_1155 wMv_403 rfl (.inl rfl) rfl (Nat.le_trans (Nat.le_of_ble_eq_true rfl) hL) (Nat.le_of_ble_eq_true rfl) (Nat.le_of_ble_eq_true rfl) h (fun v20 w19 hle h => ?_) (fun _ _ _ h => kzx_no rfl h)
      have h := h hle
      refine kz_sti_n (M := kt_M420) [(0, .ref (w_adr E.2.1 12 0)), (1, .int v2)] kX13_goOn_c17.2.2.2.2.1 (Nat.le_of_ble_eq_true rfl) ⟨⟨rfl, rfl, .inl rfl⟩, ⟨⟨rfl, rfl, .inr rfl⟩, trivial⟩⟩ rfl ?_
      refine kz_aload_n (M := kt_M420) kX13_goOn_c17.2.2.2.2.2.1 rfl ?_
      refine kz_cv0 (M := kt_M420) (c := 12) (o := 0) (As := []) (rest := []) kX13_goOn_c17.2.2.2.2.2.2.1 wl_X13_1290 wMv_511 rfl (.inl rfl) rfl (Nat.le_trans (Nat.le_of_ble_eq_true rfl) hL) (Nat.le_of_ble_eq_true rfl) (Nat.le_of_ble_eq_true rfl) h (fun w21 hle h => ?_) (fun _ _ _ h => kzx_no rfl h)
      have h := h hle
      refine kz_aload_n (M := kt_M420) kX13_goOn_c17.2.2.2.2.2.2.2.1 rfl ?_
      refine kz_gfc (M := kt_M420) (x := 4232) (c := 12) (o := 0) kX13_goOn_c18.1 wf_X13_433 (.inl rfl) ?_
      refine kz_aload_n (M := kt_M420) kX13_goOn_c18.2.1 rfl ?_
      refine kz_gfi (M := kt_M420) (c := 12) (o := 0) kX13_goOn_c18.2.2.1 wf_X13_1168 (.inl rfl) ?_
      refine kz_dup2 (M := kt_M420) kX13_goOn_c18.2.2.2.1 ⟨rfl, rfl⟩ ?_
      refine kz_iald (M := kt_M420) (c := 12) (o := 0) (k := 160) (a := (E.2.1 4232)) kX13_goOn_c18.2.2.2.2.1 ow_12_0_160 oa_12_0_160 ot_0 h (fun h => ?_)
      refine kz_ic (M := kt_M420) 1 kX13_goOn_c18.2.2.2.2.2.1 rfl ?_
      refine kz_isub (M := kt_M420) kX13_goOn_c18.2.2.2.2.2.2.1 ?_
      refine kz_iast (M := kt_M420) (c := 12) (o := 0) (k := 160) (a := (E.2.1 4232)) kX13_goOn_c18.2.2.2.2.2.2.2.1 ow_12_0_160 oa_12_0_160 ot_0 h (fun h => ?_)
      refine kz_aload_n (M := kt_M420) kX13_goOn_c19.1 rfl ?_
      refine kz_iload_n (M := kt_M420) kX13_goOn_c19.2.1 rfl ?_
      refine kz_aload_n (M := kt_M420) kX13_goOn_c19.2.2.1 rfl ?_
      refine kz_gfiR (M := kt_M420) (c := 12) (o := 0) (w_i w21 12 0 162) kX13_goOn_c19.2.2.2.1 wf_X13_1171 (.inl rfl) rd_i_a ?_
      refine kz_cv0 (M := kt_M420) (c := 12) (o := 0) (As := [.int v2, .int (w_i w21 12 0 162)]) (rest := []) kX13_goOn_c19.2.2.2.2.1 wl_X13_1296 wMv_587 rfl (.inl rfl) rfl (Nat.le_trans (Nat.le_of_ble_eq_true rfl) hL) (Nat.le_of_ble_eq_true rfl) (Nat.le_of_ble_eq_true rfl) h (fun w23 hle h => ?_) (fun _ _ _ h => kzx_no rfl h)
      have h := h hle
      refine kz_aload_n (M := kt_M420) kX13_goOn_c19.2.2.2.2.2.1 rfl ?_
      refine kz_aload_n (M := kt_M420) kX13_goOn_c19.2.2.2.2.2.2.1 rfl ?_
      refine kz_gfi (M := kt_M420) (c := 12) (o := 0) kX13_goOn_c19.2.2.2.2.2.2.2.1 wf_X13_1171 (.inl rfl) ?_
      refine kz_cv0 (M := kt_M420) (c := 12) (o := 0) (As := [.int (w_i w23 12 0 162)]) (rest := []) kX13_goOn_c20.1 wl_X13_1299 wMv_416 rfl (.inl rfl) rfl (Nat.le_trans (Nat.le_of_ble_eq_true rfl) hL) (Nat.le_of_ble_eq_true rfl) (Nat.le_of_ble_eq_true rfl) h (fun w25 hle h => ?_) (fun _ _ _ h => kzx_no rfl h)
      have h := h hle
      refine kz_aload_n (M := kt_M420) kX13_goOn_c20.2.1 rfl ?_
      refine kz_iload_n (M := kt_M420) kX13_goOn_c20.2.2.1 rfl ?_
      refine kz_pfi (M := kt_M420) (c := 12) (o := 0) kX13_goOn_c20.2.2.2.1 wq_X13_1171 (.inl rfl) ?_
      refine kz_goto (M := kt_M420) kX13_goOn_c20.2.2.2.2.1 (t := 320) rfl ?_
      exact kz_weak [(0, .ref (w_adr E.2.1 12 0))] ⟨rfl, trivial⟩ rfl (zt_X13_goOn_p320 hL  h)
    · skip
      exact kz_ret (M := kt_M420) kX13_goOn_c20.2.2.2.2.2.1 rfl h
