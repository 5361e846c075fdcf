/-! ===== methods over the typed state (printed by tools/gen_lift.py) ===== -/
set_option maxRecDepth 100000
def zL_X13_nameE_p174 (E : zE) (L : Nat) (Q : kx_Rs → wS → Prop) (x4 : Int32) (w : wS) : Prop := kzE E L kt_M476 174 [(0, .ref (w_adr E.2.1 12 0)), (4, .int x4)] [] w Q
def zL_X13_nameE_p94 (E : zE) (L : Nat) (Q : kx_Rs → wS → Prop) (x3 : Int32) (w : wS) : Prop := kzE E L kt_M476 94 [(0, .ref (w_adr E.2.1 12 0)), (3, .int x3)] [] w Q
def zb_X13_nameE_p278 (E : zE) (L : Nat) (Q : kx_Rs → wS → Prop) (w : wS) : Prop := Q (.inl none) w
theorem zt_X13_nameE_p278 {E : zE} {L : Nat} {Q : kx_Rs → wS → Prop} {w : wS} (hL : 24 ≤ L) (h : zb_X13_nameE_p278 E L Q  w) : kzE E L kt_M476 278 [(0, .ref (w_adr E.2.1 12 0))] [] w Q := by
  unfold zb_X13_nameE_p278 at h
  exact kz_ret (M := kt_M476) kX13_nameE_c17.2.2.2.2.1 rfl h
def zb_X13_nameE_p259 (E : zE) (L : Nat) (Q : kx_Rs → wS → Prop) (x1 : Int32) (y0 : Int32) (w : wS) : Prop := (if ¬ y0 = 0 then zb_X13_nameE_p278 E L Q w else (kx_inb x1 (w_n w 12 0 27) = true ∧ zw E (L - 22) kt_M560 [.ref (w_adr E.2.1 12 0), .int 6, .int (w_a w 12 0 27 (x1).toNatClampNeg)] w (wk0 (fun w1 => wle w w1 → zb_X13_nameE_p278 E L Q w1) (fun e w => Q (.inr e) w))))
theorem zt_X13_nameE_p259 {E : zE} {L : Nat} {Q : kx_Rs → wS → Prop} {x1 : Int32} {y0 : Int32} {w : wS} (hL : 24 ≤ L) (h : zb_X13_nameE_p259 E L Q x1 y0 w) : kzE E L kt_M476 259 [(0, .ref (w_adr E.2.1 12 0)), (1, .int x1)] [.int y0] w Q := by
  unfold zb_X13_nameE_p259 at h
  refine kz_sti (M := kt_M476) [(0, .ref (w_adr E.2.1 12 0)), (1, .int x1)] kX13_nameE_c16.2.2.1 (Nat.le_of_ble_eq_true rfl) ⟨⟨rfl, rfl, .inl rfl⟩, ⟨⟨rfl, rfl, .inl rfl⟩, trivial⟩⟩ rfl ?_
  refine kz_iload (M := kt_M476) kX13_nameE_c16.2.2.2.1 rfl ?_
  refine kz_if_ne (M := kt_M476) kX13_nameE_c16.2.2.2.2.1 (t := 278) rfl h (fun h => ?_) (fun h => ?_)
  · skip
    exact kz_weak [(0, .ref (w_adr E.2.1 12 0))] ⟨rfl, trivial⟩ rfl (zt_X13_nameE_p278 hL  h)
  · skip
    refine kz_aload_n (M := kt_M476) kX13_nameE_c16.2.2.2.2.2.1 rfl ?_
    refine kz_bi (M := kt_M476) 6 kX13_nameE_c16.2.2.2.2.2.2.1 rfl ?_
    refine kz_aload_n (M := kt_M476) kX13_nameE_c16.2.2.2.2.2.2.2.1 rfl ?_
    refine kz_gfc (M := kt_M476) (x := 4099) (c := 12) (o := 0) kX13_nameE_c17.1 wf_X13_190 (.inl rfl) ?_
    refine kz_iload_n (M := kt_M476) kX13_nameE_c17.2.1 rfl ?_
    refine kz_iald (M := kt_M476) (c := 12) (o := 0) (k := 27) (a := (E.2.1 4099)) kX13_nameE_c17.2.2.1 ow_12_0_27 oa_12_0_27 ot_0 h (fun h => ?_)
    refine kz_cv0 (M := kt_M476) (c := 12) (o := 0) (As := [.int 6, .int (w_a w 12 0 27 (x1).toNatClampNeg)]) (rest := []) kX13_nameE_c17.2.2.2.1 wl_X13_734 wMv_560 rfl (.inl rfl) rfl (Nat.le_trans (Nat.le_of_ble_eq_true rfl) hL) (Nat.le_of_ble_eq_true rfl) (Nat.le_of_ble_eq_true rfl) h (fun w1 hle h => ?_) (fun _ _ _ h => kzx_no rfl h)
    have h := h hle
    exact kz_weak [(0, .ref (w_adr E.2.1 12 0))] ⟨rfl, trivial⟩ rfl (zt_X13_nameE_p278 hL  h)
def zb_X13_nameE_p258 (E : zE) (L : Nat) (Q : kx_Rs → wS → Prop) (x1 : Int32) (w : wS) : Prop := zb_X13_nameE_p259 E L Q x1 0 w
theorem zt_X13_nameE_p258 {E : zE} {L : Nat} {Q : kx_Rs → wS → Prop} {x1 : Int32} {w : wS} (hL : 24 ≤ L) (h : zb_X13_nameE_p258 E L Q x1 w) : kzE E L kt_M476 258 [(0, .ref (w_adr E.2.1 12 0)), (1, .int x1)] [] w Q := by
  unfold zb_X13_nameE_p258 at h
  refine kz_ic (M := kt_M476) 0 kX13_nameE_c16.2.1 rfl ?_
  exact kz_weak [(0, .ref (w_adr E.2.1 12 0)), (1, .int x1)] ⟨rfl, ⟨rfl, trivial⟩⟩ rfl (zt_X13_nameE_p259 hL  h)
def zb_X13_nameE_p254 (E : zE) (L : Nat) (Q : kx_Rs → wS → Prop) (x1 : Int32) (w : wS) : Prop := zb_X13_nameE_p259 E L Q x1 1 w
theorem zt_X13_nameE_p254 {E : zE} {L : Nat} {Q : kx_Rs → wS → Prop} {x1 : Int32} {w : wS} (hL : 24 ≤ L) (h : zb_X13_nameE_p254 E L Q x1 w) : kzE E L kt_M476 254 [(0, .ref (w_adr E.2.1 12 0)), (1, .int x1)] [] w Q := by
  unfold zb_X13_nameE_p254 at h
  refine kz_ic (M := kt_M476) 1 kX13_nameE_c15.2.2.2.2.2.2.2.1 rfl ?_
  refine kz_goto (M := kt_M476) kX13_nameE_c16.1 (t := 259) rfl ?_
  exact kz_weak [(0, .ref (w_adr E.2.1 12 0)), (1, .int x1)] ⟨rfl, ⟨rfl, trivial⟩⟩ rfl (zt_X13_nameE_p259 hL  h)
def zb_X13_nameE_p174 (E : zE) (L : Nat) (Q : kx_Rs → wS → Prop) (x4 : Int32) (w : wS) : Prop := (if x4 < 0 then Q (.inl none) w else zw E (L - 24) kt_M476 [.ref (w_adr E.2.1 12 0), .int x4, .int 0] w (wk0 (fun w1 => wle w w1 → (kx_inb x4 (w_n w1 12 0 32) = true ∧ zL_X13_nameE_p174 E L Q (w_a w1 12 0 32 (x4).toNatClampNeg) w1)) (fun e w => Q (.inr e) w)))
theorem zt_X13_nameE_p174 {E : zE} {L : Nat} {Q : kx_Rs → wS → Prop} {x4 : Int32} {w : wS} (hL : 24 ≤ L) (h : zb_X13_nameE_p174 E L Q x4 w) : kzE E L kt_M476 174 [(0, .ref (w_adr E.2.1 12 0)), (4, .int x4)] [] w Q := by
  unfold zb_X13_nameE_p174 at h
  refine kz_iload (M := kt_M476) kX13_nameE_c10.2.2.1 rfl ?_
  refine kz_if_lt (M := kt_M476) kX13_nameE_c10.2.2.2.1 (t := 198) rfl h (fun h => ?_) (fun h => ?_)
  · skip
    exact kz_ret (M := kt_M476) kX13_nameE_c11.2.2.2.2.2.2.1 rfl h
  · skip
    refine kz_aload_n (M := kt_M476) kX13_nameE_c10.2.2.2.2.1 rfl ?_
    refine kz_iload (M := kt_M476) kX13_nameE_c10.2.2.2.2.2.1 rfl ?_
    refine kz_ic (M := kt_M476) 0 kX13_nameE_c10.2.2.2.2.2.2.1 rfl ?_
    refine kz_cv0 (M := kt_M476) (c := 12) (o := 0) (As := [.int x4, .int 0]) (rest := []) kX13_nameE_c10.2.2.2.2.2.2.2.1 wl_X13_743 wMv_476 rfl (.inl rfl) rfl (Nat.le_trans (Nat.le_of_ble_eq_true rfl) hL) (Nat.le_of_ble_eq_true rfl) (Nat.le_of_ble_eq_true rfl) h (fun w1 hle h => ?_) (fun _ _ _ h => kzx_no rfl h)
    have h := h hle
    refine kz_aload_n (M := kt_M476) kX13_nameE_c11.1 rfl ?_
    refine kz_gfc (M := kt_M476) (x := 4104) (c := 12) (o := 0) kX13_nameE_c11.2.1 wf_X13_205 (.inl rfl) ?_
    refine kz_iload (M := kt_M476) kX13_nameE_c11.2.2.1 rfl ?_
    refine kz_iald (M := kt_M476) (c := 12) (o := 0) (k := 32) (a := (E.2.1 4104)) kX13_nameE_c11.2.2.2.1 ow_12_0_32 oa_12_0_32 ot_0 h (fun h => ?_)
    refine kz_sti (M := kt_M476) [(0, .ref (w_adr E.2.1 12 0))] kX13_nameE_c11.2.2.2.2.1 (Nat.le_of_ble_eq_true rfl) ⟨⟨rfl, rfl, .inl rfl⟩, trivial⟩ rfl ?_
    refine kz_goto (M := kt_M476) kX13_nameE_c11.2.2.2.2.2.1 (t := 174) rfl ?_
    exact kz_weak [(0, .ref (w_adr E.2.1 12 0)), (4, .int (w_a w1 12 0 32 (x4).toNatClampNeg))] ⟨rfl, ⟨rfl, trivial⟩⟩ rfl h
def zb_X13_nameE_p166 (E : zE) (L : Nat) (Q : kx_Rs → wS → Prop) (x1 : Int32) (w : wS) : Prop := (kx_inb x1 (w_n w 12 0 28) = true ∧ zL_X13_nameE_p174 E L Q (w_a w 12 0 28 (x1).toNatClampNeg) w)
theorem zt_X13_nameE_p166 {E : zE} {L : Nat} {Q : kx_Rs → wS → Prop} {x1 : Int32} {w : wS} (hL : 24 ≤ L) (h : zb_X13_nameE_p166 E L Q x1 w) : kzE E L kt_M476 166 [(0, .ref (w_adr E.2.1 12 0)), (1, .int x1)] [] w Q := by
  unfold zb_X13_nameE_p166 at h
  refine kz_aload_n (M := kt_M476) kX13_nameE_c9.2.2.2.2.2.1 rfl ?_
  refine kz_gfc (M := kt_M476) (x := 4100) (c := 12) (o := 0) kX13_nameE_c9.2.2.2.2.2.2.1 wf_X13_193 (.inl rfl) ?_
  refine kz_iload_n (M := kt_M476) kX13_nameE_c9.2.2.2.2.2.2.2.1 rfl ?_
  refine kz_iald (M := kt_M476) (c := 12) (o := 0) (k := 28) (a := (E.2.1 4100)) kX13_nameE_c10.1 ow_12_0_28 oa_12_0_28 ot_0 h (fun h => ?_)
  refine kz_sti (M := kt_M476) [(0, .ref (w_adr E.2.1 12 0))] kX13_nameE_c10.2.1 (Nat.le_of_ble_eq_true rfl) ⟨⟨rfl, rfl, .inl rfl⟩, trivial⟩ rfl ?_
  exact kz_weak [(0, .ref (w_adr E.2.1 12 0)), (4, .int (w_a w 12 0 28 (x1).toNatClampNeg))] ⟨rfl, ⟨rfl, trivial⟩⟩ rfl h
def zb_X13_nameE_p94 (E : zE) (L : Nat) (Q : kx_Rs → wS → Prop) (x3 : Int32) (w : wS) : Prop := (if x3 < 0 then Q (.inl none) w else zw E (L - 24) kt_M476 [.ref (w_adr E.2.1 12 0), .int x3, .int 0] w (wk0 (fun w1 => wle w w1 → (kx_inb x3 (w_n w1 12 0 32) = true ∧ zL_X13_nameE_p94 E L Q (w_a w1 12 0 32 (x3).toNatClampNeg) w1)) (fun e w => Q (.inr e) w)))
theorem zt_X13_nameE_p94 {E : zE} {L : Nat} {Q : kx_Rs → wS → Prop} {x3 : Int32} {w : wS} (hL : 24 ≤ L) (h : zb_X13_nameE_p94 E L Q x3 w) : kzE E L kt_M476 94 [(0, .ref (w_adr E.2.1 12 0)), (3, .int x3)] [] w Q := by
  unfold zb_X13_nameE_p94 at h
  refine kz_iload_n (M := kt_M476) kX13_nameE_c4.2.1 rfl ?_
  refine kz_if_lt (M := kt_M476) kX13_nameE_c4.2.2.1 (t := 114) rfl h (fun h => ?_) (fun h => ?_)
  · skip
    exact kz_ret (M := kt_M476) kX13_nameE_c5.2.2.2.2.2.1 rfl h
  · skip
    refine kz_aload_n (M := kt_M476) kX13_nameE_c4.2.2.2.1 rfl ?_
    refine kz_iload_n (M := kt_M476) kX13_nameE_c4.2.2.2.2.1 rfl ?_
    refine kz_ic (M := kt_M476) 0 kX13_nameE_c4.2.2.2.2.2.1 rfl ?_
    refine kz_cv0 (M := kt_M476) (c := 12) (o := 0) (As := [.int x3, .int 0]) (rest := []) kX13_nameE_c4.2.2.2.2.2.2.1 wl_X13_743 wMv_476 rfl (.inl rfl) rfl (Nat.le_trans (Nat.le_of_ble_eq_true rfl) hL) (Nat.le_of_ble_eq_true rfl) (Nat.le_of_ble_eq_true rfl) h (fun w1 hle h => ?_) (fun _ _ _ h => kzx_no rfl h)
    have h := h hle
    refine kz_aload_n (M := kt_M476) kX13_nameE_c4.2.2.2.2.2.2.2.1 rfl ?_
    refine kz_gfc (M := kt_M476) (x := 4104) (c := 12) (o := 0) kX13_nameE_c5.1 wf_X13_205 (.inl rfl) ?_
    refine kz_iload_n (M := kt_M476) kX13_nameE_c5.2.1 rfl ?_
    refine kz_iald (M := kt_M476) (c := 12) (o := 0) (k := 32) (a := (E.2.1 4104)) kX13_nameE_c5.2.2.1 ow_12_0_32 oa_12_0_32 ot_0 h (fun h => ?_)
    refine kz_sti_n (M := kt_M476) [(0, .ref (w_adr E.2.1 12 0))] kX13_nameE_c5.2.2.2.1 (Nat.le_of_ble_eq_true rfl) ⟨⟨rfl, rfl, .inl rfl⟩, trivial⟩ rfl ?_
    refine kz_goto (M := kt_M476) kX13_nameE_c5.2.2.2.2.1 (t := 94) rfl ?_
    exact kz_weak [(0, .ref (w_adr E.2.1 12 0)), (3, .int (w_a w1 12 0 32 (x3).toNatClampNeg))] ⟨rfl, ⟨rfl, trivial⟩⟩ rfl h
def zb_X13_nameE_p0 (E : zE) (L : Nat) (Q : kx_Rs → wS → Prop) (x1 : Int32) (x2 : Int32) (w : wS) : Prop := (kx_inb x1 (w_n w 12 0 26) = true ∧ (if w_a w 12 0 26 (x1).toNatClampNeg = 57 then (kx_inb x1 (w_n w 12 0 28) = true ∧ zw E (L - 24) kt_M476 [.ref (w_adr E.2.1 12 0), .int (w_a w 12 0 28 (x1).toNatClampNeg), .int 0] w (wk0 (fun w1 => wle w w1 → Q (.inl none) w1) (fun e w => Q (.inr e) w))) else (if w_a w 12 0 26 (x1).toNatClampNeg = 58 then (kx_inb x1 (w_n w 12 0 28) = true ∧ zw E (L - 24) kt_M476 [.ref (w_adr E.2.1 12 0), .int (w_a w 12 0 28 (x1).toNatClampNeg), .int 0] w (wk0 (fun w3 => wle w w3 → Q (.inl none) w3) (fun e w => Q (.inr e) w))) else (if w_a w 12 0 26 (x1).toNatClampNeg = 59 then (kx_inb x1 (w_n w 12 0 28) = true ∧ zL_X13_nameE_p94 E L Q (w_a w 12 0 28 (x1).toNatClampNeg) w) else (if w_a w 12 0 26 (x1).toNatClampNeg = 60 then zw E (L - 21) kt_M477 [.ref (w_adr E.2.1 12 0), .int x1] w (wk1 (fun v6 w5 => wle w w5 → (if v6 < 0 then zb_X13_nameE_p254 E L Q x1 w5 else (kx_inb v6 (w_n w5 12 0 46) = true ∧ (if w_a w5 12 0 46 (v6).toNatClampNeg = 1 then zb_X13_nameE_p254 E L Q x1 w5 else (kx_inb v6 (w_n w5 12 0 46) = true ∧ (if w_a w5 12 0 46 (v6).toNatClampNeg = 2 then zb_X13_nameE_p254 E L Q x1 w5 else (kx_inb v6 (w_n w5 12 0 46) = true ∧ (if w_a w5 12 0 46 (v6).toNatClampNeg = 9 then zb_X13_nameE_p254 E L Q x1 w5 else (kx_inb v6 (w_n w5 12 0 46) = true ∧ (if ¬ w_a w5 12 0 46 (v6).toNatClampNeg = 3 then zb_X13_nameE_p258 E L Q x1 w5 else (if x2 = 0 then zb_X13_nameE_p258 E L Q x1 w5 else zb_X13_nameE_p254 E L Q x1 w5))))))))))) (fun e w => Q (.inr e) w)) else (if w_a w 12 0 26 (x1).toNatClampNeg = 61 then (kx_inb x1 (w_n w 12 0 30) = true ∧ (kx_inb x1 (w_n w 12 0 27) = true ∧ zw E (L - 23) kt_M411 [.ref (w_adr E.2.1 12 0), .int (w_a w 12 0 30 (x1).toNatClampNeg), .int (w_a w 12 0 27 (x1).toNatClampNeg)] w (wk1 (fun v8 w7 => wle w w7 → (kx_inb x1 (w_n w7 12 0 31) = true ∧ (if v8 < 0 then zb_X13_nameE_p166 E L Q x1 (ws_a w7 12 0 31 (x1).toNatClampNeg v8) else (kx_inb v8 (w_n w7 12 0 46) = true ∧ (if w_a w7 12 0 46 (v8).toNatClampNeg = 8 then zb_X13_nameE_p166 E L Q x1 (ws_a w7 12 0 31 (x1).toNatClampNeg v8) else (kx_inb x1 (w_n w7 12 0 27) = true ∧ zw E (L - 22) kt_M560 [.ref (w_adr E.2.1 12 0), .int 6, .int (w_a w7 12 0 27 (x1).toNatClampNeg)] (ws_a w7 12 0 31 (x1).toNatClampNeg v8) (wk0 (fun w9 => wle (ws_a w7 12 0 31 (x1).toNatClampNeg v8) w9 → zb_X13_nameE_p166 E L Q x1 w9) (fun e w => Q (.inr e) w)))))))) (fun e w => Q (.inr e) w)))) else (if w_a w 12 0 26 (x1).toNatClampNeg = 62 then (kx_inb x1 (w_n w 12 0 28) = true ∧ zw E (L - 24) kt_M476 [.ref (w_adr E.2.1 12 0), .int (w_a w 12 0 28 (x1).toNatClampNeg), .int 0] w (wk0 (fun w11 => wle w w11 → Q (.inl none) w11) (fun e w => Q (.inr e) w))) else (if w_a w 12 0 26 (x1).toNatClampNeg = 63 then (kx_inb x1 (w_n w 12 0 28) = true ∧ zw E (L - 24) kt_M476 [.ref (w_adr E.2.1 12 0), .int (w_a w 12 0 28 (x1).toNatClampNeg), .int 0] w (wk0 (fun w13 => wle w w13 → (kx_inb x1 (w_n w13 12 0 30) = true ∧ zw E (L - 24) kt_M476 [.ref (w_adr E.2.1 12 0), .int (w_a w13 12 0 30 (x1).toNatClampNeg), .int 0] w13 (wk0 (fun w15 => wle w13 w15 → Q (.inl none) w15) (fun e w => Q (.inr e) w)))) (fun e w => Q (.inr e) w))) else (if w_a w 12 0 26 (x1).toNatClampNeg = 64 then (kx_inb x1 (w_n w 12 0 28) = true ∧ zL_X13_nameE_p94 E L Q (w_a w 12 0 28 (x1).toNatClampNeg) w) else Q (.inl none) w)))))))))
theorem zt_X13_nameE_p0 {E : zE} {L : Nat} {Q : kx_Rs → wS → Prop} {x1 : Int32} {x2 : Int32} {w : wS} (hL : 24 ≤ L) (h : zb_X13_nameE_p0 E L Q x1 x2 w) : kzE E L kt_M476 0 [(0, .ref (w_adr E.2.1 12 0)), (1, .int x1), (2, .int x2)] [] w Q := by
  unfold zb_X13_nameE_p0 at h
  refine kz_aload_n (M := kt_M476) kX13_nameE_c0.1 rfl ?_
  refine kz_gfc (M := kt_M476) (x := 4098) (c := 12) (o := 0) kX13_nameE_c0.2.1 wf_X13_187 (.inl rfl) ?_
  refine kz_iload_n (M := kt_M476) kX13_nameE_c0.2.2.1 rfl ?_
  refine kz_iald (M := kt_M476) (c := 12) (o := 0) (k := 26) (a := (E.2.1 4098)) kX13_nameE_c0.2.2.2.1 ow_12_0_26 oa_12_0_26 ot_0 h (fun h => ?_)
  refine kz_tsw (M := kt_M476) [(57, 52), (58, 52), (59, 87), (60, 199), (61, 115), (62, 52), (63, 64), (64, 87)] [_, _, _, _, _, _, _, _] 279 dX13_nameE_p6 (by decide +kernel) h ⟨fun h => ?_, fun h => ?_, fun h => ?_, fun h => ?_, fun h => ?_, fun h => ?_, fun h => ?_, fun h => ?_, trivial⟩ (fun h => ?_)
  · skip
    refine kz_aload_n (M := kt_M476) kX13_nameE_c0.2.2.2.2.2.1 rfl ?_
    refine kz_aload_n (M := kt_M476) kX13_nameE_c0.2.2.2.2.2.2.1 rfl ?_
    refine kz_gfc (M := kt_M476) (x := 4100) (c := 12) (o := 0) kX13_nameE_c0.2.2.2.2.2.2.2.1 wf_X13_193 (.inl rfl) ?_
    refine kz_iload_n (M := kt_M476) kX13_nameE_c1.1 rfl ?_
    refine kz_iald (M := kt_M476) (c := 12) (o := 0) (k := 28) (a := (E.2.1 4100)) kX13_nameE_c1.2.1 ow_12_0_28 oa_12_0_28 ot_0 h (fun h => ?_)
    refine kz_ic (M := kt_M476) 0 kX13_nameE_c1.2.2.1 rfl ?_
    refine kz_cv0 (M := kt_M476) (c := 12) (o := 0) (As := [.int (w_a w 12 0 28 (x1).toNatClampNeg), .int 0]) (rest := []) kX13_nameE_c1.2.2.2.1 wl_X13_743 wMv_476 rfl (.inl rfl) rfl (Nat.le_trans (Nat.le_of_ble_eq_true rfl) hL) (Nat.le_of_ble_eq_true rfl) (Nat.le_of_ble_eq_true rfl) h (fun w1 hle h => ?_) (fun _ _ _ h => kzx_no rfl h)
    have h := h hle
    exact kz_ret (M := kt_M476) kX13_nameE_c1.2.2.2.2.1 rfl h
  · skip
    refine kz_aload_n (M := kt_M476) kX13_nameE_c0.2.2.2.2.2.1 rfl ?_
    refine kz_aload_n (M := kt_M476) kX13_nameE_c0.2.2.2.2.2.2.1 rfl ?_
    refine kz_gfc (M := kt_M476) (x := 4100) (c := 12) (o := 0) kX13_nameE_c0.2.2.2.2.2.2.2.1 wf_X13_193 (.inl rfl) ?_
    refine kz_iload_n (M := kt_M476) kX13_nameE_c1.1 rfl ?_
    refine kz_iald (M := kt_M476) (c := 12) (o := 0) (k := 28) (a := (E.2.1 4100)) kX13_nameE_c1.2.1 ow_12_0_28 oa_12_0_28 ot_0 h (fun h => ?_)
    refine kz_ic (M := kt_M476) 0 kX13_nameE_c1.2.2.1 rfl ?_
    refine kz_cv0 (M := kt_M476) (c := 12) (o := 0) (As := [.int (w_a w 12 0 28 (x1).toNatClampNeg), .int 0]) (rest := []) kX13_nameE_c1.2.2.2.1 wl_X13_743 wMv_476 rfl (.inl rfl) rfl (Nat.le_trans (Nat.le_of_ble_eq_true rfl) hL) (Nat.le_of_ble_eq_true rfl) (Nat.le_of_ble_eq_true rfl) h (fun w3 hle h => ?_) (fun _ _ _ h => kzx_no rfl h)
    have h := h hle
    exact kz_ret (M := kt_M476) kX13_nameE_c1.2.2.2.2.1 rfl h
  · skip
    refine kz_aload_n (M := kt_M476) kX13_nameE_c3.2.2.2.2.1 rfl ?_
    refine kz_gfc (M := kt_M476) (x := 4100) (c := 12) (o := 0) kX13_nameE_c3.2.2.2.2.2.1 wf_X13_193 (.inl rfl) ?_
    refine kz_iload_n (M := kt_M476) kX13_nameE_c3.2.2.2.2.2.2.1 rfl ?_
    refine kz_iald (M := kt_M476) (c := 12) (o := 0) (k := 28) (a := (E.2.1 4100)) kX13_nameE_c3.2.2.2.2.2.2.2.1 ow_12_0_28 oa_12_0_28 ot_0 h (fun h => ?_)
    refine kz_sti_n (M := kt_M476) [(0, .ref (w_adr E.2.1 12 0))] kX13_nameE_c4.1 (Nat.le_of_ble_eq_true rfl) ⟨⟨rfl, rfl, .inl rfl⟩, trivial⟩ rfl ?_
    exact kz_weak [(0, .ref (w_adr E.2.1 12 0)), (3, .int (w_a w 12 0 28 (x1).toNatClampNeg))] ⟨rfl, ⟨rfl, trivial⟩⟩ rfl h
  · skip
    refine kz_aload_n (M := kt_M476) kX13_nameE_c11.2.2.2.2.2.2.2.1 rfl ?_
    refine kz_iload_n (M := kt_M476) kX13_nameE_c12.1 rfl ?_
    refine kz_cv1 (M := kt_M476) (c := 12) (o := 0) (As := [.int x1]) (rest := []) kX13_nameE_c12.2.1 wl_X13_747 wMv_477 rfl (.inl rfl) rfl (Nat.le_trans (Nat.le_of_ble_eq_true rfl) hL) (Nat.le_of_ble_eq_true rfl) (Nat.le_of_ble_eq_true rfl) h (fun v6 w5 hle h => ?_) (fun _ _ _ h => kzx_no rfl h)
    have h := h hle
    refine kz_sti_n (M := kt_M476) [(0, .ref (w_adr E.2.1 12 0)), (1, .int x1), (2, .int x2)] kX13_nameE_c12.2.2.1 (Nat.le_of_ble_eq_true rfl) ⟨⟨rfl, rfl, .inl rfl⟩, ⟨⟨rfl, rfl, .inl rfl⟩, ⟨⟨rfl, rfl, .inr rfl⟩, trivial⟩⟩⟩ rfl ?_
    refine kz_iload_n (M := kt_M476) kX13_nameE_c12.2.2.2.1 rfl ?_
    refine kz_if_lt (M := kt_M476) kX13_nameE_c12.2.2.2.2.1 (t := 254) rfl h (fun h => ?_) (fun h => ?_)
    · skip
      exact kz_weak [(0, .ref (w_adr E.2.1 12 0)), (1, .int x1)] ⟨rfl, ⟨rfl, trivial⟩⟩ rfl (zt_X13_nameE_p254 hL  h)
    · skip
      refine kz_aload_n (M := kt_M476) kX13_nameE_c12.2.2.2.2.2.1 rfl ?_
      refine kz_gfc (M := kt_M476) (x := 4118) (c := 12) (o := 0) kX13_nameE_c12.2.2.2.2.2.2.1 wf_X13_223 (.inl rfl) ?_
      refine kz_iload_n (M := kt_M476) kX13_nameE_c12.2.2.2.2.2.2.2.1 rfl ?_
      refine kz_iald (M := kt_M476) (c := 12) (o := 0) (k := 46) (a := (E.2.1 4118)) kX13_nameE_c13.1 ow_12_0_46 oa_12_0_46 ot_0 h (fun h => ?_)
      refine kz_ic (M := kt_M476) 1 kX13_nameE_c13.2.1 rfl ?_
      refine kz_icmp_eq (M := kt_M476) kX13_nameE_c13.2.2.1 (t := 254) rfl h (fun h => ?_) (fun h => ?_)
      · skip
        exact kz_weak [(0, .ref (w_adr E.2.1 12 0)), (1, .int x1)] ⟨rfl, ⟨rfl, trivial⟩⟩ rfl (zt_X13_nameE_p254 hL  h)
      · skip
        refine kz_aload_n (M := kt_M476) kX13_nameE_c13.2.2.2.1 rfl ?_
        refine kz_gfc (M := kt_M476) (x := 4118) (c := 12) (o := 0) kX13_nameE_c13.2.2.2.2.1 wf_X13_223 (.inl rfl) ?_
        refine kz_iload_n (M := kt_M476) kX13_nameE_c13.2.2.2.2.2.1 rfl ?_
        refine kz_iald (M := kt_M476) (c := 12) (o := 0) (k := 46) (a := (E.2.1 4118)) kX13_nameE_c13.2.2.2.2.2.2.1 ow_12_0_46 oa_12_0_46 ot_0 h (fun h => ?_)
        refine kz_ic (M := kt_M476) 2 kX13_nameE_c13.2.2.2.2.2.2.2.1 rfl ?_
        refine kz_icmp_eq (M := kt_M476) kX13_nameE_c14.1 (t := 254) rfl h (fun h => ?_) (fun h => ?_)
        · skip
          exact kz_weak [(0, .ref (w_adr E.2.1 12 0)), (1, .int x1)] ⟨rfl, ⟨rfl, trivial⟩⟩ rfl (zt_X13_nameE_p254 hL  h)
        · skip
          refine kz_aload_n (M := kt_M476) kX13_nameE_c14.2.1 rfl ?_
          refine kz_gfc (M := kt_M476) (x := 4118) (c := 12) (o := 0) kX13_nameE_c14.2.2.1 wf_X13_223 (.inl rfl) ?_
          refine kz_iload_n (M := kt_M476) kX13_nameE_c14.2.2.2.1 rfl ?_
          refine kz_iald (M := kt_M476) (c := 12) (o := 0) (k := 46) (a := (E.2.1 4118)) kX13_nameE_c14.2.2.2.2.1 ow_12_0_46 oa_12_0_46 ot_0 h (fun h => ?_)
          refine kz_bi (M := kt_M476) 9 kX13_nameE_c14.2.2.2.2.2.1 rfl ?_
          refine kz_icmp_eq (M := kt_M476) kX13_nameE_c14.2.2.2.2.2.2.1 (t := 254) rfl h (fun h => ?_) (fun h => ?_)
          · skip
            exact kz_weak [(0, .ref (w_adr E.2.1 12 0)), (1, .int x1)] ⟨rfl, ⟨rfl, trivial⟩⟩ rfl (zt_X13_nameE_p254 hL  h)
          · skip
            refine kz_aload_n (M := kt_M476) kX13_nameE_c14.2.2.2.2.2.2.2.1 rfl ?_
            refine kz_gfc (M := kt_M476) (x := 4118) (c := 12) (o := 0) kX13_nameE_c15.1 wf_X13_223 (.inl rfl) ?_
            refine kz_iload_n (M := kt_M476) kX13_nameE_c15.2.1 rfl ?_
            refine kz_iald (M := kt_M476) (c := 12) (o := 0) (k := 46) (a := (E.2.1 4118)) kX13_nameE_c15.2.2.1 ow_12_0_46 oa_12_0_46 ot_0 h (fun h => ?_)
            refine kz_ic (M := kt_M476) 3 kX13_nameE_c15.2.2.2.1 rfl ?_
            refine kz_icmp_ne (M := kt_M476) kX13_nameE_c15.2.2.2.2.1 (t := 258) rfl h (fun h => ?_) (fun h => ?_)
            · skip
              exact kz_weak [(0, .ref (w_adr E.2.1 12 0)), (1, .int x1)] ⟨rfl, ⟨rfl, trivial⟩⟩ rfl (zt_X13_nameE_p258 hL  h)
            · skip
              refine kz_iload_n (M := kt_M476) kX13_nameE_c15.2.2.2.2.2.1 rfl ?_
              refine kz_if_eq (M := kt_M476) kX13_nameE_c15.2.2.2.2.2.2.1 (t := 258) rfl h (fun h => ?_) (fun h => ?_)
              · skip
                exact kz_weak [(0, .ref (w_adr E.2.1 12 0)), (1, .int x1)] ⟨rfl, ⟨rfl, trivial⟩⟩ rfl (zt_X13_nameE_p258 hL  h)
              · skip
                exact kz_weak [(0, .ref (w_adr E.2.1 12 0)), (1, .int x1)] ⟨rfl, ⟨rfl, trivial⟩⟩ rfl (zt_X13_nameE_p254 hL  h)
  · skip
    refine kz_aload_n (M := kt_M476) kX13_nameE_c5.2.2.2.2.2.2.1 rfl ?_
    refine kz_aload_n (M := kt_M476) kX13_nameE_c5.2.2.2.2.2.2.2.1 rfl ?_
    refine kz_gfc (M := kt_M476) (x := 4102) (c := 12) (o := 0) kX13_nameE_c6.1 wf_X13_199 (.inl rfl) ?_
    refine kz_iload_n (M := kt_M476) kX13_nameE_c6.2.1 rfl ?_
    refine kz_iald (M := kt_M476) (c := 12) (o := 0) (k := 30) (a := (E.2.1 4102)) kX13_nameE_c6.2.2.1 ow_12_0_30 oa_12_0_30 ot_0 h (fun h => ?_)
    refine kz_aload_n (M := kt_M476) kX13_nameE_c6.2.2.2.1 rfl ?_
    refine kz_gfc (M := kt_M476) (x := 4099) (c := 12) (o := 0) kX13_nameE_c6.2.2.2.2.1 wf_X13_190 (.inl rfl) ?_
    refine kz_iload_n (M := kt_M476) kX13_nameE_c6.2.2.2.2.2.1 rfl ?_
    refine kz_iald (M := kt_M476) (c := 12) (o := 0) (k := 27) (a := (E.2.1 4099)) kX13_nameE_c6.2.2.2.2.2.2.1 ow_12_0_27 oa_12_0_27 ot_0 h (fun h => ?_)
    refine kz_cv1 (M := kt_M476) (c := 12) (o := 0) (As := [.int (w_a w 12 0 30 (x1).toNatClampNeg), .int (w_a w 12 0 27 (x1).toNatClampNeg)]) (rest := []) kX13_nameE_c6.2.2.2.2.2.2.2.1 wl_X13_740 wMv_411 rfl (.inl rfl) rfl (Nat.le_trans (Nat.le_of_ble_eq_true rfl) hL) (Nat.le_of_ble_eq_true rfl) (Nat.le_of_ble_eq_true rfl) h (fun v8 w7 hle h => ?_) (fun _ _ _ h => kzx_no rfl h)
    have h := h hle
    refine kz_sti_n (M := kt_M476) [(0, .ref (w_adr E.2.1 12 0)), (1, .int x1)] kX13_nameE_c7.1 (Nat.le_of_ble_eq_true rfl) ⟨⟨rfl, rfl, .inl rfl⟩, ⟨⟨rfl, rfl, .inl rfl⟩, trivial⟩⟩ rfl ?_
    refine kz_aload_n (M := kt_M476) kX13_nameE_c7.2.1 rfl ?_
    refine kz_gfc (M := kt_M476) (x := 4103) (c := 12) (o := 0) kX13_nameE_c7.2.2.1 wf_X13_202 (.inl rfl) ?_
    refine kz_iload_n (M := kt_M476) kX13_nameE_c7.2.2.2.1 rfl ?_
    refine kz_iload_n (M := kt_M476) kX13_nameE_c7.2.2.2.2.1 rfl ?_
    refine kz_iast (M := kt_M476) (c := 12) (o := 0) (k := 31) (a := (E.2.1 4103)) kX13_nameE_c7.2.2.2.2.2.1 ow_12_0_31 oa_12_0_31 ot_0 h (fun h => ?_)
    refine kz_iload_n (M := kt_M476) kX13_nameE_c7.2.2.2.2.2.2.1 rfl ?_
    refine kz_if_lt (M := kt_M476) kX13_nameE_c7.2.2.2.2.2.2.2.1 (t := 166) rfl h (fun h => ?_) (fun h => ?_)
    · skip
      exact kz_weak [(0, .ref (w_adr E.2.1 12 0)), (1, .int x1)] ⟨rfl, ⟨rfl, trivial⟩⟩ rfl (zt_X13_nameE_p166 hL  h)
    · skip
      refine kz_aload_n (M := kt_M476) kX13_nameE_c8.1 rfl ?_
      refine kz_gfc (M := kt_M476) (x := 4118) (c := 12) (o := 0) kX13_nameE_c8.2.1 wf_X13_223 (.inl rfl) ?_
      refine kz_iload_n (M := kt_M476) kX13_nameE_c8.2.2.1 rfl ?_
      refine kz_ialdR (M := kt_M476) (n := w_n w7 12 0 46) (c := 12) (o := 0) (k := 46) (a := (E.2.1 4118)) (w_a w7 12 0 46 (v8).toNatClampNeg) kX13_nameE_c8.2.2.2.1 ow_12_0_46 oa_12_0_46 ot_0 rd_n_a (rd_a_a rfl) h (fun h => ?_)
      refine kz_bi (M := kt_M476) 8 kX13_nameE_c8.2.2.2.2.1 rfl ?_
      refine kz_icmp_eq (M := kt_M476) kX13_nameE_c8.2.2.2.2.2.1 (t := 166) rfl h (fun h => ?_) (fun h => ?_)
      · skip
        exact kz_weak [(0, .ref (w_adr E.2.1 12 0)), (1, .int x1)] ⟨rfl, ⟨rfl, trivial⟩⟩ rfl (zt_X13_nameE_p166 hL  h)
      · skip
        refine kz_aload_n (M := kt_M476) kX13_nameE_c8.2.2.2.2.2.2.1 rfl ?_
        refine kz_bi (M := kt_M476) 6 kX13_nameE_c8.2.2.2.2.2.2.2.1 rfl ?_
        refine kz_aload_n (M := kt_M476) kX13_nameE_c9.1 rfl ?_
        refine kz_gfc (M := kt_M476) (x := 4099) (c := 12) (o := 0) kX13_nameE_c9.2.1 wf_X13_190 (.inl rfl) ?_
        refine kz_iload_n (M := kt_M476) kX13_nameE_c9.2.2.1 rfl ?_
        refine kz_ialdR (M := kt_M476) (n := w_n w7 12 0 27) (c := 12) (o := 0) (k := 27) (a := (E.2.1 4099)) (w_a w7 12 0 27 (x1).toNatClampNeg) kX13_nameE_c9.2.2.2.1 ow_12_0_27 oa_12_0_27 ot_0 rd_n_a (rd_a_a rfl) h (fun h => ?_)
        refine kz_cv0 (M := kt_M476) (c := 12) (o := 0) (As := [.int 6, .int (w_a w7 12 0 27 (x1).toNatClampNeg)]) (rest := []) kX13_nameE_c9.2.2.2.2.1 wl_X13_734 wMv_560 rfl (.inl rfl) rfl (Nat.le_trans (Nat.le_of_ble_eq_true rfl) hL) (Nat.le_of_ble_eq_true rfl) (Nat.le_of_ble_eq_true rfl) h (fun w9 hle h => ?_) (fun _ _ _ h => kzx_no rfl h)
        have h := h hle
        exact kz_weak [(0, .ref (w_adr E.2.1 12 0)), (1, .int x1)] ⟨rfl, ⟨rfl, trivial⟩⟩ rfl (zt_X13_nameE_p166 hL  h)
  · skip
    refine kz_aload_n (M := kt_M476) kX13_nameE_c0.2.2.2.2.2.1 rfl ?_
    refine kz_aload_n (M := kt_M476) kX13_nameE_c0.2.2.2.2.2.2.1 rfl ?_
    refine kz_gfc (M := kt_M476) (x := 4100) (c := 12) (o := 0) kX13_nameE_c0.2.2.2.2.2.2.2.1 wf_X13_193 (.inl rfl) ?_
    refine kz_iload_n (M := kt_M476) kX13_nameE_c1.1 rfl ?_
    refine kz_iald (M := kt_M476) (c := 12) (o := 0) (k := 28) (a := (E.2.1 4100)) kX13_nameE_c1.2.1 ow_12_0_28 oa_12_0_28 ot_0 h (fun h => ?_)
    refine kz_ic (M := kt_M476) 0 kX13_nameE_c1.2.2.1 rfl ?_
    refine kz_cv0 (M := kt_M476) (c := 12) (o := 0) (As := [.int (w_a w 12 0 28 (x1).toNatClampNeg), .int 0]) (rest := []) kX13_nameE_c1.2.2.2.1 wl_X13_743 wMv_476 rfl (.inl rfl) rfl (Nat.le_trans (Nat.le_of_ble_eq_true rfl) hL) (Nat.le_of_ble_eq_true rfl) (Nat.le_of_ble_eq_true rfl) h (fun w11 hle h => ?_) (fun _ _ _ h => kzx_no rfl h)
    have h := h hle
    exact kz_ret (M := kt_M476) kX13_nameE_c1.2.2.2.2.1 rfl h
  · skip
    refine kz_aload_n (M := kt_M476) kX13_nameE_c1.2.2.2.2.2.1 rfl ?_
    refine kz_aload_n (M := kt_M476) kX13_nameE_c1.2.2.2.2.2.2.1 rfl ?_
    refine kz_gfc (M := kt_M476) (x := 4100) (c := 12) (o := 0) kX13_nameE_c1.2.2.2.2.2.2.2.1 wf_X13_193 (.inl rfl) ?_
    refine kz_iload_n (M := kt_M476) kX13_nameE_c2.1 rfl ?_
    refine kz_iald (M := kt_M476) (c := 12) (o := 0) (k := 28) (a := (E.2.1 4100)) kX13_nameE_c2.2.1 ow_12_0_28 oa_12_0_28 ot_0 h (fun h => ?_)
    refine kz_ic (M := kt_M476) 0 kX13_nameE_c2.2.2.1 rfl ?_
    refine kz_cv0 (M := kt_M476) (c := 12) (o := 0) (As := [.int (w_a w 12 0 28 (x1).toNatClampNeg), .int 0]) (rest := []) kX13_nameE_c2.2.2.2.1 wl_X13_743 wMv_476 rfl (.inl rfl) rfl (Nat.le_trans (Nat.le_of_ble_eq_true rfl) hL) (Nat.le_of_ble_eq_true rfl) (Nat.le_of_ble_eq_true rfl) h (fun w13 hle h => ?_) (fun _ _ _ h => kzx_no rfl h)
    have h := h hle
    refine kz_aload_n (M := kt_M476) kX13_nameE_c2.2.2.2.2.1 rfl ?_
    refine kz_aload_n (M := kt_M476) kX13_nameE_c2.2.2.2.2.2.1 rfl ?_
    refine kz_gfc (M := kt_M476) (x := 4102) (c := 12) (o := 0) kX13_nameE_c2.2.2.2.2.2.2.1 wf_X13_199 (.inl rfl) ?_
    refine kz_iload_n (M := kt_M476) kX13_nameE_c2.2.2.2.2.2.2.2.1 rfl ?_
    refine kz_iald (M := kt_M476) (c := 12) (o := 0) (k := 30) (a := (E.2.1 4102)) kX13_nameE_c3.1 ow_12_0_30 oa_12_0_30 ot_0 h (fun h => ?_)
    refine kz_ic (M := kt_M476) 0 kX13_nameE_c3.2.1 rfl ?_
    refine kz_cv0 (M := kt_M476) (c := 12) (o := 0) (As := [.int (w_a w13 12 0 30 (x1).toNatClampNeg), .int 0]) (rest := []) kX13_nameE_c3.2.2.1 wl_X13_743 wMv_476 rfl (.inl rfl) rfl (Nat.le_trans (Nat.le_of_ble_eq_true rfl) hL) (Nat.le_of_ble_eq_true rfl) (Nat.le_of_ble_eq_true rfl) h (fun w15 hle h => ?_) (fun _ _ _ h => kzx_no rfl h)
    have h := h hle
    exact kz_ret (M := kt_M476) kX13_nameE_c3.2.2.2.1 rfl h
  · skip
    refine kz_aload_n (M := kt_M476) kX13_nameE_c3.2.2.2.2.1 rfl ?_
    refine kz_gfc (M := kt_M476) (x := 4100) (c := 12) (o := 0) kX13_nameE_c3.2.2.2.2.2.1 wf_X13_193 (.inl rfl) ?_
    refine kz_iload_n (M := kt_M476) kX13_nameE_c3.2.2.2.2.2.2.1 rfl ?_
    refine kz_iald (M := kt_M476) (c := 12) (o := 0) (k := 28) (a := (E.2.1 4100)) kX13_nameE_c3.2.2.2.2.2.2.2.1 ow_12_0_28 oa_12_0_28 ot_0 h (fun h => ?_)
    refine kz_sti_n (M := kt_M476) [(0, .ref (w_adr E.2.1 12 0))] kX13_nameE_c4.1 (Nat.le_of_ble_eq_true rfl) ⟨⟨rfl, rfl, .inl rfl⟩, trivial⟩ rfl ?_
    exact kz_weak [(0, .ref (w_adr E.2.1 12 0)), (3, .int (w_a w 12 0 28 (x1).toNatClampNeg))] ⟨rfl, ⟨rfl, trivial⟩⟩ rfl h
  · skip
    exact kz_ret (M := kt_M476) kX13_nameE_c17.2.2.2.2.2.1 rfl h
def zb_X13_find_p17 (E : zE) (L : Nat) (Q : kx_Rs → wS → Prop) (x3 : Int32) (w : wS) : Prop := Q (.inl (some (.int x3))) w
theorem zt_X13_find_p17 {E : zE} {L : Nat} {Q : kx_Rs → wS → Prop} {x3 : Int32} {w : wS} (hL : 22 ≤ L) (h : zb_X13_find_p17 E L Q x3 w) : kzE E L kt_M411 17 [(0, .ref (w_adr E.2.1 12 0)), (3, .int x3)] [] w Q := by
  unfold zb_X13_find_p17 at h
  refine kz_iload_n (M := kt_M411) kX13_find_c1.2.2.2.1 rfl ?_
  exact kz_iret (M := kt_M411) kX13_find_c1.2.2.2.2.1 rfl rfl h
def zb_X13_find_p0 (E : zE) (L : Nat) (Q : kx_Rs → wS → Prop) (x1 : Int32) (x2 : Int32) (w : wS) : Prop := zw E (L - 22) kt_M467 [.ref (w_adr E.2.1 12 0), .int x1] w (wk1 (fun v2 w1 => wle w w1 → (if ¬ v2 = (-1) then zb_X13_find_p17 E L Q v2 w1 else zw E (L - 22) kt_M560 [.ref (w_adr E.2.1 12 0), .int 5, .int x2] w1 (wk0 (fun w3 => wle w1 w3 → zb_X13_find_p17 E L Q v2 w3) (fun e w => Q (.inr e) w)))) (fun e w => Q (.inr e) w))
theorem zt_X13_find_p0 {E : zE} {L : Nat} {Q : kx_Rs → wS → Prop} {x1 : Int32} {x2 : Int32} {w : wS} (hL : 22 ≤ L) (h : zb_X13_find_p0 E L Q x1 x2 w) : kzE E L kt_M411 0 [(0, .ref (w_adr E.2.1 12 0)), (1, .int x1), (2, .int x2)] [] w Q := by
  unfold zb_X13_find_p0 at h
  refine kz_aload_n (M := kt_M411) kX13_find_c0.1 rfl ?_
  refine kz_iload_n (M := kt_M411) kX13_find_c0.2.1 rfl ?_
  refine kz_cv1 (M := kt_M411) (c := 12) (o := 0) (As := [.int x1]) (rest := []) kX13_find_c0.2.2.1 wl_X13_731 wMv_467 rfl (.inl rfl) rfl (Nat.le_trans (Nat.le_of_ble_eq_true rfl) hL) (Nat.le_of_ble_eq_true rfl) (Nat.le_of_ble_eq_true rfl) h (fun v2 w1 hle h => ?_) (fun _ _ _ h => kzx_no rfl h)
  have h := h hle
  refine kz_sti_n (M := kt_M411) [(0, .ref (w_adr E.2.1 12 0)), (2, .int x2)] kX13_find_c0.2.2.2.1 (Nat.le_of_ble_eq_true rfl) ⟨⟨rfl, rfl, .inl rfl⟩, ⟨⟨rfl, rfl, .inr rfl⟩, trivial⟩⟩ rfl ?_
  refine kz_iload_n (M := kt_M411) kX13_find_c0.2.2.2.2.1 rfl ?_
  refine kz_ic (M := kt_M411) (-1) kX13_find_c0.2.2.2.2.2.1 rfl ?_
  refine kz_icmp_ne (M := kt_M411) kX13_find_c0.2.2.2.2.2.2.1 (t := 17) rfl h (fun h => ?_) (fun h => ?_)
  · skip
    exact kz_weak [(0, .ref (w_adr E.2.1 12 0)), (3, .int v2)] ⟨rfl, ⟨rfl, trivial⟩⟩ rfl (zt_X13_find_p17 hL  h)
  · skip
    refine kz_aload_n (M := kt_M411) kX13_find_c0.2.2.2.2.2.2.2.1 rfl ?_
    refine kz_ic (M := kt_M411) 5 kX13_find_c1.1 rfl ?_
    refine kz_iload_n (M := kt_M411) kX13_find_c1.2.1 rfl ?_
    refine kz_cv0 (M := kt_M411) (c := 12) (o := 0) (As := [.int 5, .int x2]) (rest := []) kX13_find_c1.2.2.1 wl_X13_734 wMv_560 rfl (.inl rfl) rfl (Nat.le_trans (Nat.le_of_ble_eq_true rfl) hL) (Nat.le_of_ble_eq_true rfl) (Nat.le_of_ble_eq_true rfl) h (fun w3 hle h => ?_) (fun _ _ _ h => kzx_no rfl h)
    have h := h hle
    exact kz_weak [(0, .ref (w_adr E.2.1 12 0)), (3, .int v2)] ⟨rfl, ⟨rfl, trivial⟩⟩ rfl (zt_X13_find_p17 hL  h)
def zL_X13_meant_p7 (E : zE) (L : Nat) (Q : kx_Rs → wS → Prop) (x1 : Int32) (x2 : Int32) (w : wS) : Prop := kzE E L kt_M467 7 [(0, .ref (w_adr E.2.1 12 0)), (1, .int x1), (2, .int x2)] [] w Q
def zb_X13_meant_p7 (E : zE) (L : Nat) (Q : kx_Rs → wS → Prop) (x1 : Int32) (x2 : Int32) (w : wS) : Prop := (if x2 < 0 then Q (.inl (some (.int (-1)))) w else (kx_inb x2 (w_n w 12 0 57) = true ∧ (kx_inb (w_a w 12 0 57 (x2).toNatClampNeg) (w_n w 12 0 45) = true ∧ (if ¬ w_a w 12 0 45 (w_a w 12 0 57 (x2).toNatClampNeg).toNatClampNeg = x1 then zL_X13_meant_p7 E L Q x1 (x2 + (-1)) w else (kx_inb x2 (w_n w 12 0 57) = true ∧ Q (.inl (some (.int (w_a w 12 0 57 (x2).toNatClampNeg)))) w)))))
theorem zt_X13_meant_p7 {E : zE} {L : Nat} {Q : kx_Rs → wS → Prop} {x1 : Int32} {x2 : Int32} {w : wS} (hL : 19 ≤ L) (h : zb_X13_meant_p7 E L Q x1 x2 w) : kzE E L kt_M467 7 [(0, .ref (w_adr E.2.1 12 0)), (1, .int x1), (2, .int x2)] [] w Q := by
  unfold zb_X13_meant_p7 at h
  refine kz_iload_n (M := kt_M467) kX13_meant_c0.2.2.2.2.2.1 rfl ?_
  refine kz_if_lt (M := kt_M467) kX13_meant_c0.2.2.2.2.2.2.1 (t := 39) rfl h (fun h => ?_) (fun h => ?_)
  · skip
    refine kz_ic (M := kt_M467) (-1) kX13_meant_c2.2.2.2.2.2.2.2.1 rfl ?_
    exact kz_iret (M := kt_M467) kX13_meant_c3.1 rfl rfl h
  · skip
    refine kz_aload_n (M := kt_M467) kX13_meant_c0.2.2.2.2.2.2.2.1 rfl ?_
    refine kz_gfc (M := kt_M467) (x := 4117) (c := 12) (o := 0) kX13_meant_c1.1 wf_X13_220 (.inl rfl) ?_
    refine kz_aload_n (M := kt_M467) kX13_meant_c1.2.1 rfl ?_
    refine kz_gfc (M := kt_M467) (x := 4129) (c := 12) (o := 0) kX13_meant_c1.2.2.1 wf_X13_254 (.inl rfl) ?_
    refine kz_iload_n (M := kt_M467) kX13_meant_c1.2.2.2.1 rfl ?_
    refine kz_iald (M := kt_M467) (c := 12) (o := 0) (k := 57) (a := (E.2.1 4129)) kX13_meant_c1.2.2.2.2.1 ow_12_0_57 oa_12_0_57 ot_0 h (fun h => ?_)
    refine kz_iald (M := kt_M467) (c := 12) (o := 0) (k := 45) (a := (E.2.1 4117)) kX13_meant_c1.2.2.2.2.2.1 ow_12_0_45 oa_12_0_45 ot_0 h (fun h => ?_)
    refine kz_iload_n (M := kt_M467) kX13_meant_c1.2.2.2.2.2.2.1 rfl ?_
    refine kz_icmp_ne (M := kt_M467) kX13_meant_c1.2.2.2.2.2.2.2.1 (t := 33) rfl h (fun h => ?_) (fun h => ?_)
    · skip
      refine kz_inc (M := kt_M467) [(0, .ref (w_adr E.2.1 12 0)), (1, .int x1)] kX13_meant_c2.2.2.2.2.2.1 rfl (Nat.le_of_ble_eq_true rfl) ⟨⟨rfl, rfl, .inl rfl⟩, ⟨⟨rfl, rfl, .inr rfl⟩, trivial⟩⟩ rfl ?_
      refine kz_goto (M := kt_M467) kX13_meant_c2.2.2.2.2.2.2.1 (t := 7) rfl ?_
      exact kz_weak [(0, .ref (w_adr E.2.1 12 0)), (1, .int x1), (2, .int (x2 + (-1)))] ⟨rfl, ⟨rfl, ⟨rfl, trivial⟩⟩⟩ rfl h
    · skip
      refine kz_aload_n (M := kt_M467) kX13_meant_c2.1 rfl ?_
      refine kz_gfc (M := kt_M467) (x := 4129) (c := 12) (o := 0) kX13_meant_c2.2.1 wf_X13_254 (.inl rfl) ?_
      refine kz_iload_n (M := kt_M467) kX13_meant_c2.2.2.1 rfl ?_
      refine kz_iald (M := kt_M467) (c := 12) (o := 0) (k := 57) (a := (E.2.1 4129)) kX13_meant_c2.2.2.2.1 ow_12_0_57 oa_12_0_57 ot_0 h (fun h => ?_)
      exact kz_iret (M := kt_M467) kX13_meant_c2.2.2.2.2.1 rfl rfl h
def zb_X13_meant_p0 (E : zE) (L : Nat) (Q : kx_Rs → wS → Prop) (x1 : Int32) (w : wS) : Prop := zL_X13_meant_p7 E L Q x1 ((w_i w 12 0 56) - 1) w
theorem zt_X13_meant_p0 {E : zE} {L : Nat} {Q : kx_Rs → wS → Prop} {x1 : Int32} {w : wS} (hL : 19 ≤ L) (h : zb_X13_meant_p0 E L Q x1 w) : kzE E L kt_M467 0 [(0, .ref (w_adr E.2.1 12 0)), (1, .int x1)] [] w Q := by
  unfold zb_X13_meant_p0 at h
  refine kz_aload_n (M := kt_M467) kX13_meant_c0.1 rfl ?_
  refine kz_gfi (M := kt_M467) (c := 12) (o := 0) kX13_meant_c0.2.1 wf_X13_728 (.inl rfl) ?_
  refine kz_ic (M := kt_M467) 1 kX13_meant_c0.2.2.1 rfl ?_
  refine kz_isub (M := kt_M467) kX13_meant_c0.2.2.2.1 ?_
  refine kz_sti_n (M := kt_M467) [(0, .ref (w_adr E.2.1 12 0)), (1, .int x1)] kX13_meant_c0.2.2.2.2.1 (Nat.le_of_ble_eq_true rfl) ⟨⟨rfl, rfl, .inl rfl⟩, ⟨⟨rfl, rfl, .inr rfl⟩, trivial⟩⟩ rfl ?_
  exact kz_weak [(0, .ref (w_adr E.2.1 12 0)), (1, .int x1), (2, .int ((w_i w 12 0 56) - 1))] ⟨rfl, ⟨rfl, ⟨rfl, trivial⟩⟩⟩ rfl h
def zb_X13_tells_p41 (E : zE) (L : Nat) (Q : kx_Rs → wS → Prop) (w : wS) : Prop := Q (.inl none) w
theorem zt_X13_tells_p41 {E : zE} {L : Nat} {Q : kx_Rs → wS → Prop} {w : wS} (hL : 19 ≤ L) (h : zb_X13_tells_p41 E L Q  w) : kzE E L kt_M560 41 [(0, .ref (w_adr E.2.1 12 0))] [] w Q := by
  unfold zb_X13_tells_p41 at h
  exact kz_ret (M := kt_M560) kX13_tells_c2.2.2.2.2.2.1 rfl h
def zb_X13_tells_p31 (E : zE) (L : Nat) (Q : kx_Rs → wS → Prop) (x1 : Int32) (x2 : Int32) (w : wS) : Prop := zb_X13_tells_p41 E L Q (ws_i (ws_i w 12 0 64 x1) 12 0 65 x2)
theorem zt_X13_tells_p31 {E : zE} {L : Nat} {Q : kx_Rs → wS → Prop} {x1 : Int32} {x2 : Int32} {w : wS} (hL : 19 ≤ L) (h : zb_X13_tells_p31 E L Q x1 x2 w) : kzE E L kt_M560 31 [(0, .ref (w_adr E.2.1 12 0)), (1, .int x1), (2, .int x2)] [] w Q := by
  unfold zb_X13_tells_p31 at h
  refine kz_aload_n (M := kt_M560) kX13_tells_c1.2.2.2.2.2.2.2.1 rfl ?_
  refine kz_iload_n (M := kt_M560) kX13_tells_c2.1 rfl ?_
  refine kz_pfi (M := kt_M560) (c := 12) (o := 0) kX13_tells_c2.2.1 wq_X13_716 (.inl rfl) ?_
  refine kz_aload_n (M := kt_M560) kX13_tells_c2.2.2.1 rfl ?_
  refine kz_iload_n (M := kt_M560) kX13_tells_c2.2.2.2.1 rfl ?_
  refine kz_pfi (M := kt_M560) (c := 12) (o := 0) kX13_tells_c2.2.2.2.2.1 wq_X13_719 (.inl rfl) ?_
  exact kz_weak [(0, .ref (w_adr E.2.1 12 0))] ⟨rfl, trivial⟩ rfl (zt_X13_tells_p41 hL  h)
def zb_X13_tells_p0 (E : zE) (L : Nat) (Q : kx_Rs → wS → Prop) (x1 : Int32) (x2 : Int32) (w : wS) : Prop := (if w_i w 12 0 64 = 0 then zb_X13_tells_p31 E L Q x1 x2 w else (if x2 < w_i w 12 0 65 then zb_X13_tells_p31 E L Q x1 x2 w else (if ¬ x2 = w_i w 12 0 65 then zb_X13_tells_p41 E L Q w else (if w_i w 12 0 64 ≤ x1 then zb_X13_tells_p41 E L Q w else zb_X13_tells_p31 E L Q x1 x2 w))))
theorem zt_X13_tells_p0 {E : zE} {L : Nat} {Q : kx_Rs → wS → Prop} {x1 : Int32} {x2 : Int32} {w : wS} (hL : 19 ≤ L) (h : zb_X13_tells_p0 E L Q x1 x2 w) : kzE E L kt_M560 0 [(0, .ref (w_adr E.2.1 12 0)), (1, .int x1), (2, .int x2)] [] w Q := by
  unfold zb_X13_tells_p0 at h
  refine kz_aload_n (M := kt_M560) kX13_tells_c0.1 rfl ?_
  refine kz_gfi (M := kt_M560) (c := 12) (o := 0) kX13_tells_c0.2.1 wf_X13_716 (.inl rfl) ?_
  refine kz_if_eq (M := kt_M560) kX13_tells_c0.2.2.1 (t := 31) rfl h (fun h => ?_) (fun h => ?_)
  · skip
    exact kz_weak [(0, .ref (w_adr E.2.1 12 0)), (1, .int x1), (2, .int x2)] ⟨rfl, ⟨rfl, ⟨rfl, trivial⟩⟩⟩ rfl (zt_X13_tells_p31 hL  h)
  · skip
    refine kz_iload_n (M := kt_M560) kX13_tells_c0.2.2.2.1 rfl ?_
    refine kz_aload_n (M := kt_M560) kX13_tells_c0.2.2.2.2.1 rfl ?_
    refine kz_gfi (M := kt_M560) (c := 12) (o := 0) kX13_tells_c0.2.2.2.2.2.1 wf_X13_719 (.inl rfl) ?_
    refine kz_icmp_lt (M := kt_M560) kX13_tells_c0.2.2.2.2.2.2.1 (t := 31) rfl h (fun h => ?_) (fun h => ?_)
    · skip
      exact kz_weak [(0, .ref (w_adr E.2.1 12 0)), (1, .int x1), (2, .int x2)] ⟨rfl, ⟨rfl, ⟨rfl, trivial⟩⟩⟩ rfl (zt_X13_tells_p31 hL  h)
    · skip
      refine kz_iload_n (M := kt_M560) kX13_tells_c0.2.2.2.2.2.2.2.1 rfl ?_
      refine kz_aload_n (M := kt_M560) kX13_tells_c1.1 rfl ?_
      refine kz_gfi (M := kt_M560) (c := 12) (o := 0) kX13_tells_c1.2.1 wf_X13_719 (.inl rfl) ?_
      refine kz_icmp_ne (M := kt_M560) kX13_tells_c1.2.2.1 (t := 41) rfl h (fun h => ?_) (fun h => ?_)
      · skip
        exact kz_weak [(0, .ref (w_adr E.2.1 12 0))] ⟨rfl, trivial⟩ rfl (zt_X13_tells_p41 hL  h)
      · skip
        refine kz_iload_n (M := kt_M560) kX13_tells_c1.2.2.2.1 rfl ?_
        refine kz_aload_n (M := kt_M560) kX13_tells_c1.2.2.2.2.1 rfl ?_
        refine kz_gfi (M := kt_M560) (c := 12) (o := 0) kX13_tells_c1.2.2.2.2.2.1 wf_X13_716 (.inl rfl) ?_
        refine kz_icmp_ge (M := kt_M560) kX13_tells_c1.2.2.2.2.2.2.1 (t := 41) rfl h (fun h => ?_) (fun h => ?_)
        · skip
          exact kz_weak [(0, .ref (w_adr E.2.1 12 0))] ⟨rfl, trivial⟩ rfl (zt_X13_tells_p41 hL  h)
        · skip
          exact kz_weak [(0, .ref (w_adr E.2.1 12 0)), (1, .int x1), (2, .int x2)] ⟨rfl, ⟨rfl, ⟨rfl, trivial⟩⟩⟩ rfl (zt_X13_tells_p31 hL  h)
def zb_X13_nameElem_p42 (E : zE) (L : Nat) (Q : kx_Rs → wS → Prop) (x1 : Int32) (w : wS) : Prop := (kx_inb x1 (w_n w 12 0 31) = true ∧ Q (.inl (some (.int (w_a w 12 0 31 (x1).toNatClampNeg)))) w)
theorem zt_X13_nameElem_p42 {E : zE} {L : Nat} {Q : kx_Rs → wS → Prop} {x1 : Int32} {w : wS} (hL : 24 ≤ L) (h : zb_X13_nameElem_p42 E L Q x1 w) : kzE E L kt_M477 42 [(0, .ref (w_adr E.2.1 12 0)), (1, .int x1)] [] w Q := by
  unfold zb_X13_nameElem_p42 at h
  refine kz_aload_n (M := kt_M477) kX13_nameElem_c3.2.2.1 rfl ?_
  refine kz_gfc (M := kt_M477) (x := 4103) (c := 12) (o := 0) kX13_nameElem_c3.2.2.2.1 wf_X13_202 (.inl rfl) ?_
  refine kz_iload_n (M := kt_M477) kX13_nameElem_c3.2.2.2.2.1 rfl ?_
  refine kz_iald (M := kt_M477) (c := 12) (o := 0) (k := 31) (a := (E.2.1 4103)) kX13_nameElem_c3.2.2.2.2.2.1 ow_12_0_31 oa_12_0_31 ot_0 h (fun h => ?_)
  exact kz_iret (M := kt_M477) kX13_nameElem_c3.2.2.2.2.2.2.1 rfl rfl h
def zb_X13_nameElem_p0 (E : zE) (L : Nat) (Q : kx_Rs → wS → Prop) (x1 : Int32) (w : wS) : Prop := (kx_inb x1 (w_n w 12 0 30) = true ∧ (kx_inb x1 (w_n w 12 0 27) = true ∧ zw E (L - 23) kt_M411 [.ref (w_adr E.2.1 12 0), .int (w_a w 12 0 30 (x1).toNatClampNeg), .int (w_a w 12 0 27 (x1).toNatClampNeg)] w (wk1 (fun v2 w1 => wle w w1 → (kx_inb x1 (w_n w1 12 0 31) = true ∧ (kx_inb x1 (w_n w1 12 0 28) = true ∧ (if w_a w1 12 0 28 (x1).toNatClampNeg < 0 then zb_X13_nameElem_p42 E L Q x1 (ws_a w1 12 0 31 (x1).toNatClampNeg v2) else (kx_inb x1 (w_n w1 12 0 28) = true ∧ zw E (L - 24) kt_M476 [.ref (w_adr E.2.1 12 0), .int (w_a w1 12 0 28 (x1).toNatClampNeg), .int 0] (ws_a w1 12 0 31 (x1).toNatClampNeg v2) (wk0 (fun w3 => wle (ws_a w1 12 0 31 (x1).toNatClampNeg v2) w3 → zb_X13_nameElem_p42 E L Q x1 w3) (fun e w => Q (.inr e) w))))))) (fun e w => Q (.inr e) w))))
theorem zt_X13_nameElem_p0 {E : zE} {L : Nat} {Q : kx_Rs → wS → Prop} {x1 : Int32} {w : wS} (hL : 24 ≤ L) (h : zb_X13_nameElem_p0 E L Q x1 w) : kzE E L kt_M477 0 [(0, .ref (w_adr E.2.1 12 0)), (1, .int x1)] [] w Q := by
  unfold zb_X13_nameElem_p0 at h
  refine kz_aload_n (M := kt_M477) kX13_nameElem_c0.1 rfl ?_
  refine kz_gfc (M := kt_M477) (x := 4103) (c := 12) (o := 0) kX13_nameElem_c0.2.1 wf_X13_202 (.inl rfl) ?_
  refine kz_iload_n (M := kt_M477) kX13_nameElem_c0.2.2.1 rfl ?_
  refine kz_aload_n (M := kt_M477) kX13_nameElem_c0.2.2.2.1 rfl ?_
  refine kz_aload_n (M := kt_M477) kX13_nameElem_c0.2.2.2.2.1 rfl ?_
  refine kz_gfc (M := kt_M477) (x := 4102) (c := 12) (o := 0) kX13_nameElem_c0.2.2.2.2.2.1 wf_X13_199 (.inl rfl) ?_
  refine kz_iload_n (M := kt_M477) kX13_nameElem_c0.2.2.2.2.2.2.1 rfl ?_
  refine kz_iald (M := kt_M477) (c := 12) (o := 0) (k := 30) (a := (E.2.1 4102)) kX13_nameElem_c0.2.2.2.2.2.2.2.1 ow_12_0_30 oa_12_0_30 ot_0 h (fun h => ?_)
  refine kz_aload_n (M := kt_M477) kX13_nameElem_c1.1 rfl ?_
  refine kz_gfc (M := kt_M477) (x := 4099) (c := 12) (o := 0) kX13_nameElem_c1.2.1 wf_X13_190 (.inl rfl) ?_
  refine kz_iload_n (M := kt_M477) kX13_nameElem_c1.2.2.1 rfl ?_
  refine kz_iald (M := kt_M477) (c := 12) (o := 0) (k := 27) (a := (E.2.1 4099)) kX13_nameElem_c1.2.2.2.1 ow_12_0_27 oa_12_0_27 ot_0 h (fun h => ?_)
  refine kz_cv1 (M := kt_M477) (c := 12) (o := 0) (As := [.int (w_a w 12 0 30 (x1).toNatClampNeg), .int (w_a w 12 0 27 (x1).toNatClampNeg)]) (rest := [.int x1, .ref (E.2.1 4103)]) kX13_nameElem_c1.2.2.2.2.1 wl_X13_740 wMv_411 rfl (.inl rfl) rfl (Nat.le_trans (Nat.le_of_ble_eq_true rfl) hL) (Nat.le_of_ble_eq_true rfl) (Nat.le_of_ble_eq_true rfl) h (fun v2 w1 hle h => ?_) (fun _ _ _ h => kzx_no rfl h)
  have h := h hle
  refine kz_iast (M := kt_M477) (c := 12) (o := 0) (k := 31) (a := (E.2.1 4103)) kX13_nameElem_c1.2.2.2.2.2.1 ow_12_0_31 oa_12_0_31 ot_0 h (fun h => ?_)
  refine kz_aload_n (M := kt_M477) kX13_nameElem_c1.2.2.2.2.2.2.1 rfl ?_
  refine kz_gfc (M := kt_M477) (x := 4100) (c := 12) (o := 0) kX13_nameElem_c1.2.2.2.2.2.2.2.1 wf_X13_193 (.inl rfl) ?_
  refine kz_iload_n (M := kt_M477) kX13_nameElem_c2.1 rfl ?_
  refine kz_ialdR (M := kt_M477) (n := w_n w1 12 0 28) (c := 12) (o := 0) (k := 28) (a := (E.2.1 4100)) (w_a w1 12 0 28 (x1).toNatClampNeg) kX13_nameElem_c2.2.1 ow_12_0_28 oa_12_0_28 ot_0 rd_n_a (rd_a_a rfl) h (fun h => ?_)
  refine kz_if_lt (M := kt_M477) kX13_nameElem_c2.2.2.1 (t := 42) rfl h (fun h => ?_) (fun h => ?_)
  · skip
    exact kz_weak [(0, .ref (w_adr E.2.1 12 0)), (1, .int x1)] ⟨rfl, ⟨rfl, trivial⟩⟩ rfl (zt_X13_nameElem_p42 hL  h)
  · skip
    refine kz_aload_n (M := kt_M477) kX13_nameElem_c2.2.2.2.1 rfl ?_
    refine kz_aload_n (M := kt_M477) kX13_nameElem_c2.2.2.2.2.1 rfl ?_
    refine kz_gfc (M := kt_M477) (x := 4100) (c := 12) (o := 0) kX13_nameElem_c2.2.2.2.2.2.1 wf_X13_193 (.inl rfl) ?_
    refine kz_iload_n (M := kt_M477) kX13_nameElem_c2.2.2.2.2.2.2.1 rfl ?_
    refine kz_ialdR (M := kt_M477) (n := w_n w1 12 0 28) (c := 12) (o := 0) (k := 28) (a := (E.2.1 4100)) (w_a w1 12 0 28 (x1).toNatClampNeg) kX13_nameElem_c2.2.2.2.2.2.2.2.1 ow_12_0_28 oa_12_0_28 ot_0 rd_n_a (rd_a_a rfl) h (fun h => ?_)
    refine kz_ic (M := kt_M477) 0 kX13_nameElem_c3.1 rfl ?_
    refine kz_cv0 (M := kt_M477) (c := 12) (o := 0) (As := [.int (w_a w1 12 0 28 (x1).toNatClampNeg), .int 0]) (rest := []) kX13_nameElem_c3.2.1 wl_X13_743 wMv_476 rfl (.inl rfl) rfl (Nat.le_trans (Nat.le_of_ble_eq_true rfl) hL) (Nat.le_of_ble_eq_true rfl) (Nat.le_of_ble_eq_true rfl) h (fun w3 hle h => ?_) (fun _ _ _ h => kzx_no rfl h)
    have h := h hle
    exact kz_weak [(0, .ref (w_adr E.2.1 12 0)), (1, .int x1)] ⟨rfl, ⟨rfl, trivial⟩⟩ rfl (zt_X13_nameElem_p42 hL  h)
def zb_X13_kindOf_p0 (E : zE) (L : Nat) (Q : kx_Rs → wS → Prop) (x1 : Int32) (x2 : Int32) (w : wS) : Prop := (if x1 < 0 then zw E (L - 23) kt_M411 [.ref (w_adr E.2.1 12 0), .int ((-2) - x1), .int x2] w (wk1 (fun v2 w1 => wle w w1 → (if ¬ v2 = (-1) then (kx_inb v2 (w_n w1 12 0 46) = true ∧ (if w_a w1 12 0 46 (v2).toNatClampNeg = 5 then Q (.inl (some (.int (16 + v2)))) w1 else zw E (L - 22) kt_M560 [.ref (w_adr E.2.1 12 0), .int 6, .int x2] w1 (wk0 (fun w3 => wle w1 w3 → Q (.inl (some (.int (-1)))) w3) (fun e w => Q (.inr e) w)))) else Q (.inl (some (.int (-1)))) w1)) (fun e w => Q (.inr e) w)) else Q (.inl (some (.int x1))) w)
theorem zt_X13_kindOf_p0 {E : zE} {L : Nat} {Q : kx_Rs → wS → Prop} {x1 : Int32} {x2 : Int32} {w : wS} (hL : 23 ≤ L) (h : zb_X13_kindOf_p0 E L Q x1 x2 w) : kzE E L kt_M454 0 [(0, .ref (w_adr E.2.1 12 0)), (1, .int x1), (2, .int x2)] [] w Q := by
  unfold zb_X13_kindOf_p0 at h
  refine kz_iload_n (M := kt_M454) kX13_kindOf_c0.1 rfl ?_
  refine kz_if_lt (M := kt_M454) kX13_kindOf_c0.2.1 (t := 6) rfl h (fun h => ?_) (fun h => ?_)
  · skip
    refine kz_aload_n (M := kt_M454) kX13_kindOf_c0.2.2.2.2.1 rfl ?_
    refine kz_bi (M := kt_M454) (-2) kX13_kindOf_c0.2.2.2.2.2.1 rfl ?_
    refine kz_iload_n (M := kt_M454) kX13_kindOf_c0.2.2.2.2.2.2.1 rfl ?_
    refine kz_isub (M := kt_M454) kX13_kindOf_c0.2.2.2.2.2.2.2.1 ?_
    refine kz_iload_n (M := kt_M454) kX13_kindOf_c1.1 rfl ?_
    refine kz_cv1 (M := kt_M454) (c := 12) (o := 0) (As := [.int ((-2) - x1), .int x2]) (rest := []) kX13_kindOf_c1.2.1 wl_X13_740 wMv_411 rfl (.inl rfl) rfl (Nat.le_trans (Nat.le_of_ble_eq_true rfl) hL) (Nat.le_of_ble_eq_true rfl) (Nat.le_of_ble_eq_true rfl) h (fun v2 w1 hle h => ?_) (fun _ _ _ h => kzx_no rfl h)
    have h := h hle
    refine kz_sti_n (M := kt_M454) [(0, .ref (w_adr E.2.1 12 0)), (2, .int x2)] kX13_kindOf_c1.2.2.1 (Nat.le_of_ble_eq_true rfl) ⟨⟨rfl, rfl, .inl rfl⟩, ⟨⟨rfl, rfl, .inr rfl⟩, trivial⟩⟩ rfl ?_
    refine kz_iload_n (M := kt_M454) kX13_kindOf_c1.2.2.2.1 rfl ?_
    refine kz_ic (M := kt_M454) (-1) kX13_kindOf_c1.2.2.2.2.1 rfl ?_
    refine kz_icmp_ne (M := kt_M454) kX13_kindOf_c1.2.2.2.2.2.1 (t := 23) rfl h (fun h => ?_) (fun h => ?_)
    · skip
      refine kz_aload_n (M := kt_M454) kX13_kindOf_c2.1 rfl ?_
      refine kz_gfc (M := kt_M454) (x := 4118) (c := 12) (o := 0) kX13_kindOf_c2.2.1 wf_X13_223 (.inl rfl) ?_
      refine kz_iload_n (M := kt_M454) kX13_kindOf_c2.2.2.1 rfl ?_
      refine kz_iald (M := kt_M454) (c := 12) (o := 0) (k := 46) (a := (E.2.1 4118)) kX13_kindOf_c2.2.2.2.1 ow_12_0_46 oa_12_0_46 ot_0 h (fun h => ?_)
      refine kz_ic (M := kt_M454) 5 kX13_kindOf_c2.2.2.2.2.1 rfl ?_
      refine kz_icmp_eq (M := kt_M454) kX13_kindOf_c2.2.2.2.2.2.1 (t := 42) rfl h (fun h => ?_) (fun h => ?_)
      · skip
        refine kz_bi (M := kt_M454) 16 kX13_kindOf_c3.2.2.2.2.1 rfl ?_
        refine kz_iload_n (M := kt_M454) kX13_kindOf_c3.2.2.2.2.2.1 rfl ?_
        refine kz_iadd (M := kt_M454) kX13_kindOf_c3.2.2.2.2.2.2.1 ?_
        exact kz_iret (M := kt_M454) kX13_kindOf_c3.2.2.2.2.2.2.2.1 rfl rfl h
      · skip
        refine kz_aload_n (M := kt_M454) kX13_kindOf_c2.2.2.2.2.2.2.1 rfl ?_
        refine kz_bi (M := kt_M454) 6 kX13_kindOf_c2.2.2.2.2.2.2.2.1 rfl ?_
        refine kz_iload_n (M := kt_M454) kX13_kindOf_c3.1 rfl ?_
        refine kz_cv0 (M := kt_M454) (c := 12) (o := 0) (As := [.int 6, .int x2]) (rest := []) kX13_kindOf_c3.2.1 wl_X13_734 wMv_560 rfl (.inl rfl) rfl (Nat.le_trans (Nat.le_of_ble_eq_true rfl) hL) (Nat.le_of_ble_eq_true rfl) (Nat.le_of_ble_eq_true rfl) h (fun w3 hle h => ?_) (fun _ _ _ h => kzx_no rfl h)
        have h := h hle
        refine kz_ic (M := kt_M454) (-1) kX13_kindOf_c3.2.2.1 rfl ?_
        exact kz_iret (M := kt_M454) kX13_kindOf_c3.2.2.2.1 rfl rfl h
    · skip
      refine kz_ic (M := kt_M454) (-1) kX13_kindOf_c1.2.2.2.2.2.2.1 rfl ?_
      exact kz_iret (M := kt_M454) kX13_kindOf_c1.2.2.2.2.2.2.2.1 rfl rfl h
  · skip
    refine kz_iload_n (M := kt_M454) kX13_kindOf_c0.2.2.1 rfl ?_
    exact kz_iret (M := kt_M454) kX13_kindOf_c0.2.2.2.1 rfl rfl h
def zb_X13_nameAs_p32 (E : zE) (L : Nat) (Q : kx_Rs → wS → Prop) (w : wS) : Prop := Q (.inl none) w
theorem zt_X13_nameAs_p32 {E : zE} {L : Nat} {Q : kx_Rs → wS → Prop} {w : wS} (hL : 22 ≤ L) (h : zb_X13_nameAs_p32 E L Q  w) : kzE E L kt_M472 32 [(0, .ref (w_adr E.2.1 12 0))] [] w Q := by
  unfold zb_X13_nameAs_p32 at h
  exact kz_ret (M := kt_M472) kX13_nameAs_c2.2.2.2.1 rfl h
def zb_X13_nameAs_p0 (E : zE) (L : Nat) (Q : kx_Rs → wS → Prop) (x1 : Int32) (x2 : Int32) (w : wS) : Prop := zw E (L - 21) kt_M477 [.ref (w_adr E.2.1 12 0), .int x1] w (wk1 (fun v2 w1 => wle w w1 → (if v2 < 0 then zb_X13_nameAs_p32 E L Q w1 else (kx_inb v2 (w_n w1 12 0 46) = true ∧ (if w_a w1 12 0 46 (v2).toNatClampNeg = x2 then zb_X13_nameAs_p32 E L Q w1 else (kx_inb x1 (w_n w1 12 0 27) = true ∧ zw E (L - 22) kt_M560 [.ref (w_adr E.2.1 12 0), .int 6, .int (w_a w1 12 0 27 (x1).toNatClampNeg)] w1 (wk0 (fun w3 => wle w1 w3 → zb_X13_nameAs_p32 E L Q w3) (fun e w => Q (.inr e) w))))))) (fun e w => Q (.inr e) w))
theorem zt_X13_nameAs_p0 {E : zE} {L : Nat} {Q : kx_Rs → wS → Prop} {x1 : Int32} {x2 : Int32} {w : wS} (hL : 22 ≤ L) (h : zb_X13_nameAs_p0 E L Q x1 x2 w) : kzE E L kt_M472 0 [(0, .ref (w_adr E.2.1 12 0)), (1, .int x1), (2, .int x2)] [] w Q := by
  unfold zb_X13_nameAs_p0 at h
  refine kz_aload_n (M := kt_M472) kX13_nameAs_c0.1 rfl ?_
  refine kz_iload_n (M := kt_M472) kX13_nameAs_c0.2.1 rfl ?_
  refine kz_cv1 (M := kt_M472) (c := 12) (o := 0) (As := [.int x1]) (rest := []) kX13_nameAs_c0.2.2.1 wl_X13_747 wMv_477 rfl (.inl rfl) rfl (Nat.le_trans (Nat.le_of_ble_eq_true rfl) hL) (Nat.le_of_ble_eq_true rfl) (Nat.le_of_ble_eq_true rfl) h (fun v2 w1 hle h => ?_) (fun _ _ _ h => kzx_no rfl h)
  have h := h hle
  refine kz_sti_n (M := kt_M472) [(0, .ref (w_adr E.2.1 12 0)), (1, .int x1), (2, .int x2)] kX13_nameAs_c0.2.2.2.1 (Nat.le_of_ble_eq_true rfl) ⟨⟨rfl, rfl, .inl rfl⟩, ⟨⟨rfl, rfl, .inl rfl⟩, ⟨⟨rfl, rfl, .inr rfl⟩, trivial⟩⟩⟩ rfl ?_
  refine kz_iload_n (M := kt_M472) kX13_nameAs_c0.2.2.2.2.1 rfl ?_
  refine kz_if_lt (M := kt_M472) kX13_nameAs_c0.2.2.2.2.2.1 (t := 32) rfl h (fun h => ?_) (fun h => ?_)
  · skip
    exact kz_weak [(0, .ref (w_adr E.2.1 12 0))] ⟨rfl, trivial⟩ rfl (zt_X13_nameAs_p32 hL  h)
  · skip
    refine kz_aload_n (M := kt_M472) kX13_nameAs_c0.2.2.2.2.2.2.1 rfl ?_
    refine kz_gfc (M := kt_M472) (x := 4118) (c := 12) (o := 0) kX13_nameAs_c0.2.2.2.2.2.2.2.1 wf_X13_223 (.inl rfl) ?_
    refine kz_iload_n (M := kt_M472) kX13_nameAs_c1.1 rfl ?_
    refine kz_iald (M := kt_M472) (c := 12) (o := 0) (k := 46) (a := (E.2.1 4118)) kX13_nameAs_c1.2.1 ow_12_0_46 oa_12_0_46 ot_0 h (fun h => ?_)
    refine kz_iload_n (M := kt_M472) kX13_nameAs_c1.2.2.1 rfl ?_
    refine kz_icmp_eq (M := kt_M472) kX13_nameAs_c1.2.2.2.1 (t := 32) rfl h (fun h => ?_) (fun h => ?_)
    · skip
      exact kz_weak [(0, .ref (w_adr E.2.1 12 0))] ⟨rfl, trivial⟩ rfl (zt_X13_nameAs_p32 hL  h)
    · skip
      refine kz_aload_n (M := kt_M472) kX13_nameAs_c1.2.2.2.2.1 rfl ?_
      refine kz_bi (M := kt_M472) 6 kX13_nameAs_c1.2.2.2.2.2.1 rfl ?_
      refine kz_aload_n (M := kt_M472) kX13_nameAs_c1.2.2.2.2.2.2.1 rfl ?_
      refine kz_gfc (M := kt_M472) (x := 4099) (c := 12) (o := 0) kX13_nameAs_c1.2.2.2.2.2.2.2.1 wf_X13_190 (.inl rfl) ?_
      refine kz_iload_n (M := kt_M472) kX13_nameAs_c2.1 rfl ?_
      refine kz_iald (M := kt_M472) (c := 12) (o := 0) (k := 27) (a := (E.2.1 4099)) kX13_nameAs_c2.2.1 ow_12_0_27 oa_12_0_27 ot_0 h (fun h => ?_)
      refine kz_cv0 (M := kt_M472) (c := 12) (o := 0) (As := [.int 6, .int (w_a w1 12 0 27 (x1).toNatClampNeg)]) (rest := []) kX13_nameAs_c2.2.2.1 wl_X13_734 wMv_560 rfl (.inl rfl) rfl (Nat.le_trans (Nat.le_of_ble_eq_true rfl) hL) (Nat.le_of_ble_eq_true rfl) (Nat.le_of_ble_eq_true rfl) h (fun w3 hle h => ?_) (fun _ _ _ h => kzx_no rfl h)
      have h := h hle
      exact kz_weak [(0, .ref (w_adr E.2.1 12 0))] ⟨rfl, trivial⟩ rfl (zt_X13_nameAs_p32 hL  h)
def zL_X13_nameParts_p2 (E : zE) (L : Nat) (Q : kx_Rs → wS → Prop) (x2 : Int32) (w : wS) : Prop := kzE E L kt_M483 2 [(0, .ref (w_adr E.2.1 12 0)), (2, .int x2)] [] w Q
def zb_X13_nameParts_p26 (E : zE) (L : Nat) (Q : kx_Rs → wS → Prop) (x2 : Int32) (w : wS) : Prop := (kx_inb x2 (w_n w 12 0 32) = true ∧ zL_X13_nameParts_p2 E L Q (w_a w 12 0 32 (x2).toNatClampNeg) w)
theorem zt_X13_nameParts_p26 {E : zE} {L : Nat} {Q : kx_Rs → wS → Prop} {x2 : Int32} {w : wS} (hL : 24 ≤ L) (h : zb_X13_nameParts_p26 E L Q x2 w) : kzE E L kt_M483 26 [(0, .ref (w_adr E.2.1 12 0)), (2, .int x2)] [] w Q := by
  unfold zb_X13_nameParts_p26 at h
  refine kz_aload_n (M := kt_M483) kX13_nameParts_c2.1 rfl ?_
  refine kz_gfc (M := kt_M483) (x := 4104) (c := 12) (o := 0) kX13_nameParts_c2.2.1 wf_X13_205 (.inl rfl) ?_
  refine kz_iload_n (M := kt_M483) kX13_nameParts_c2.2.2.1 rfl ?_
  refine kz_iald (M := kt_M483) (c := 12) (o := 0) (k := 32) (a := (E.2.1 4104)) kX13_nameParts_c2.2.2.2.1 ow_12_0_32 oa_12_0_32 ot_0 h (fun h => ?_)
  refine kz_sti_n (M := kt_M483) [(0, .ref (w_adr E.2.1 12 0))] kX13_nameParts_c2.2.2.2.2.1 (Nat.le_of_ble_eq_true rfl) ⟨⟨rfl, rfl, .inl rfl⟩, trivial⟩ rfl ?_
  refine kz_goto (M := kt_M483) kX13_nameParts_c2.2.2.2.2.2.1 (t := 2) rfl ?_
  exact kz_weak [(0, .ref (w_adr E.2.1 12 0)), (2, .int (w_a w 12 0 32 (x2).toNatClampNeg))] ⟨rfl, ⟨rfl, trivial⟩⟩ rfl h
def zb_X13_nameParts_p2 (E : zE) (L : Nat) (Q : kx_Rs → wS → Prop) (x2 : Int32) (w : wS) : Prop := (if x2 < 0 then Q (.inl none) w else (kx_inb x2 (w_n w 12 0 28) = true ∧ (if w_a w 12 0 28 (x2).toNatClampNeg < 0 then zb_X13_nameParts_p26 E L Q x2 w else (kx_inb x2 (w_n w 12 0 28) = true ∧ zw E (L - 24) kt_M476 [.ref (w_adr E.2.1 12 0), .int (w_a w 12 0 28 (x2).toNatClampNeg), .int 0] w (wk0 (fun w1 => wle w w1 → zb_X13_nameParts_p26 E L Q x2 w1) (fun e w => Q (.inr e) w))))))
theorem zt_X13_nameParts_p2 {E : zE} {L : Nat} {Q : kx_Rs → wS → Prop} {x2 : Int32} {w : wS} (hL : 24 ≤ L) (h : zb_X13_nameParts_p2 E L Q x2 w) : kzE E L kt_M483 2 [(0, .ref (w_adr E.2.1 12 0)), (2, .int x2)] [] w Q := by
  unfold zb_X13_nameParts_p2 at h
  refine kz_iload_n (M := kt_M483) kX13_nameParts_c0.2.2.1 rfl ?_
  refine kz_if_lt (M := kt_M483) kX13_nameParts_c0.2.2.2.1 (t := 36) rfl h (fun h => ?_) (fun h => ?_)
  · skip
    exact kz_ret (M := kt_M483) kX13_nameParts_c2.2.2.2.2.2.2.1 rfl h
  · skip
    refine kz_aload_n (M := kt_M483) kX13_nameParts_c0.2.2.2.2.1 rfl ?_
    refine kz_gfc (M := kt_M483) (x := 4100) (c := 12) (o := 0) kX13_nameParts_c0.2.2.2.2.2.1 wf_X13_193 (.inl rfl) ?_
    refine kz_iload_n (M := kt_M483) kX13_nameParts_c0.2.2.2.2.2.2.1 rfl ?_
    refine kz_iald (M := kt_M483) (c := 12) (o := 0) (k := 28) (a := (E.2.1 4100)) kX13_nameParts_c0.2.2.2.2.2.2.2.1 ow_12_0_28 oa_12_0_28 ot_0 h (fun h => ?_)
    refine kz_if_lt (M := kt_M483) kX13_nameParts_c1.1 (t := 26) rfl h (fun h => ?_) (fun h => ?_)
    · skip
      exact kz_weak [(0, .ref (w_adr E.2.1 12 0)), (2, .int x2)] ⟨rfl, ⟨rfl, trivial⟩⟩ rfl (zt_X13_nameParts_p26 hL  h)
    · skip
      refine kz_aload_n (M := kt_M483) kX13_nameParts_c1.2.1 rfl ?_
      refine kz_aload_n (M := kt_M483) kX13_nameParts_c1.2.2.1 rfl ?_
      refine kz_gfc (M := kt_M483) (x := 4100) (c := 12) (o := 0) kX13_nameParts_c1.2.2.2.1 wf_X13_193 (.inl rfl) ?_
      refine kz_iload_n (M := kt_M483) kX13_nameParts_c1.2.2.2.2.1 rfl ?_
      refine kz_iald (M := kt_M483) (c := 12) (o := 0) (k := 28) (a := (E.2.1 4100)) kX13_nameParts_c1.2.2.2.2.2.1 ow_12_0_28 oa_12_0_28 ot_0 h (fun h => ?_)
      refine kz_ic (M := kt_M483) 0 kX13_nameParts_c1.2.2.2.2.2.2.1 rfl ?_
      refine kz_cv0 (M := kt_M483) (c := 12) (o := 0) (As := [.int (w_a w 12 0 28 (x2).toNatClampNeg), .int 0]) (rest := []) kX13_nameParts_c1.2.2.2.2.2.2.2.1 wl_X13_743 wMv_476 rfl (.inl rfl) rfl (Nat.le_trans (Nat.le_of_ble_eq_true rfl) hL) (Nat.le_of_ble_eq_true rfl) (Nat.le_of_ble_eq_true rfl) h (fun w1 hle h => ?_) (fun _ _ _ h => kzx_no rfl h)
      have h := h hle
      exact kz_weak [(0, .ref (w_adr E.2.1 12 0)), (2, .int x2)] ⟨rfl, ⟨rfl, trivial⟩⟩ rfl (zt_X13_nameParts_p26 hL  h)
def zb_X13_nameParts_p0 (E : zE) (L : Nat) (Q : kx_Rs → wS → Prop) (x1 : Int32) (w : wS) : Prop := zL_X13_nameParts_p2 E L Q x1 w
theorem zt_X13_nameParts_p0 {E : zE} {L : Nat} {Q : kx_Rs → wS → Prop} {x1 : Int32} {w : wS} (hL : 24 ≤ L) (h : zb_X13_nameParts_p0 E L Q x1 w) : kzE E L kt_M483 0 [(0, .ref (w_adr E.2.1 12 0)), (1, .int x1)] [] w Q := by
  unfold zb_X13_nameParts_p0 at h
  refine kz_iload_n (M := kt_M483) kX13_nameParts_c0.1 rfl ?_
  refine kz_sti_n (M := kt_M483) [(0, .ref (w_adr E.2.1 12 0))] kX13_nameParts_c0.2.1 (Nat.le_of_ble_eq_true rfl) ⟨⟨rfl, rfl, .inl rfl⟩, trivial⟩ rfl ?_
  exact kz_weak [(0, .ref (w_adr E.2.1 12 0)), (2, .int x1)] ⟨rfl, ⟨rfl, trivial⟩⟩ rfl h
def zL_X13_nameTags_p138 (E : zE) (L : Nat) (Q : kx_Rs → wS → Prop) (x3 : Int32) (w : wS) : Prop := kzE E L kt_M485 138 [(0, .ref (w_adr E.2.1 12 0)), (3, .int x3)] [] w Q
def zL_X13_nameTags_p29 (E : zE) (L : Nat) (Q : kx_Rs → wS → Prop) (x1 : Int32) (x2 : Int32) (x3 : Int32) (x4 : Int32) (w : wS) : Prop := kzE E L kt_M485 29 [(0, .ref (w_adr E.2.1 12 0)), (1, .int x1), (2, .int x2), (3, .int x3), (4, .int x4)] [] w Q
def zL_X13_nameTags_p12 (E : zE) (L : Nat) (Q : kx_Rs → wS → Prop) (x1 : Int32) (x2 : Int32) (x3 : Int32) (w : wS) : Prop := kzE E L kt_M485 12 [(0, .ref (w_adr E.2.1 12 0)), (1, .int x1), (2, .int x2), (3, .int x3)] [] w Q
def zb_X13_nameTags_p138 (E : zE) (L : Nat) (Q : kx_Rs → wS → Prop) (x3 : Int32) (w : wS) : Prop := (if x3 < 0 then Q (.inl none) w else (kx_inb x3 (w_n w 12 0 31) = true ∧ zw E (L - 21) kt_M455 [.ref (w_adr E.2.1 12 0), .int (w_a w 12 0 31 (x3).toNatClampNeg)] w (wk0 (fun w1 => wle w w1 → (kx_inb x3 (w_n w1 12 0 32) = true ∧ zL_X13_nameTags_p138 E L Q (w_a w1 12 0 32 (x3).toNatClampNeg) w1)) (fun e w => Q (.inr e) w))))
theorem zt_X13_nameTags_p138 {E : zE} {L : Nat} {Q : kx_Rs → wS → Prop} {x3 : Int32} {w : wS} (hL : 28 ≤ L) (h : zb_X13_nameTags_p138 E L Q x3 w) : kzE E L kt_M485 138 [(0, .ref (w_adr E.2.1 12 0)), (3, .int x3)] [] w Q := by
  unfold zb_X13_nameTags_p138 at h
  refine kz_iload_n (M := kt_M485) kX13_nameTags_c10.2.2.2.1 rfl ?_
  refine kz_if_lt (M := kt_M485) kX13_nameTags_c10.2.2.2.2.1 (t := 162) rfl h (fun h => ?_) (fun h => ?_)
  · skip
    exact kz_ret (M := kt_M485) kX13_nameTags_c12.2.1 rfl h
  · skip
    refine kz_aload_n (M := kt_M485) kX13_nameTags_c10.2.2.2.2.2.1 rfl ?_
    refine kz_aload_n (M := kt_M485) kX13_nameTags_c10.2.2.2.2.2.2.1 rfl ?_
    refine kz_gfc (M := kt_M485) (x := 4103) (c := 12) (o := 0) kX13_nameTags_c10.2.2.2.2.2.2.2.1 wf_X13_202 (.inl rfl) ?_
    refine kz_iload_n (M := kt_M485) kX13_nameTags_c11.1 rfl ?_
    refine kz_iald (M := kt_M485) (c := 12) (o := 0) (k := 31) (a := (E.2.1 4103)) kX13_nameTags_c11.2.1 ow_12_0_31 oa_12_0_31 ot_0 h (fun h => ?_)
    refine kz_cv0 (M := kt_M485) (c := 12) (o := 0) (As := [.int (w_a w 12 0 31 (x3).toNatClampNeg)]) (rest := []) kX13_nameTags_c11.2.2.1 wl_X13_763 wMv_455 rfl (.inl rfl) rfl (Nat.le_trans (Nat.le_of_ble_eq_true rfl) hL) (Nat.le_of_ble_eq_true rfl) (Nat.le_of_ble_eq_true rfl) h (fun w1 hle h => ?_) (fun _ _ _ h => kzx_no rfl h)
    have h := h hle
    refine kz_aload_n (M := kt_M485) kX13_nameTags_c11.2.2.2.1 rfl ?_
    refine kz_gfc (M := kt_M485) (x := 4104) (c := 12) (o := 0) kX13_nameTags_c11.2.2.2.2.1 wf_X13_205 (.inl rfl) ?_
    refine kz_iload_n (M := kt_M485) kX13_nameTags_c11.2.2.2.2.2.1 rfl ?_
    refine kz_iald (M := kt_M485) (c := 12) (o := 0) (k := 32) (a := (E.2.1 4104)) kX13_nameTags_c11.2.2.2.2.2.2.1 ow_12_0_32 oa_12_0_32 ot_0 h (fun h => ?_)
    refine kz_sti_n (M := kt_M485) [(0, .ref (w_adr E.2.1 12 0))] kX13_nameTags_c11.2.2.2.2.2.2.2.1 (Nat.le_of_ble_eq_true rfl) ⟨⟨rfl, rfl, .inl rfl⟩, trivial⟩ rfl ?_
    refine kz_goto (M := kt_M485) kX13_nameTags_c12.1 (t := 138) rfl ?_
    exact kz_weak [(0, .ref (w_adr E.2.1 12 0)), (3, .int (w_a w1 12 0 32 (x3).toNatClampNeg))] ⟨rfl, ⟨rfl, trivial⟩⟩ rfl h
def zb_X13_nameTags_p65 (E : zE) (L : Nat) (Q : kx_Rs → wS → Prop) (x1 : Int32) (x2 : Int32) (x3 : Int32) (x4 : Int32) (w : wS) : Prop := zL_X13_nameTags_p29 E L Q x1 x2 x3 (x4 + 1) w
theorem zt_X13_nameTags_p65 {E : zE} {L : Nat} {Q : kx_Rs → wS → Prop} {x1 : Int32} {x2 : Int32} {x3 : Int32} {x4 : Int32} {w : wS} (hL : 28 ≤ L) (h : zb_X13_nameTags_p65 E L Q x1 x2 x3 x4 w) : kzE E L kt_M485 65 [(0, .ref (w_adr E.2.1 12 0)), (1, .int x1), (2, .int x2), (3, .int x3), (4, .int x4)] [] w Q := by
  unfold zb_X13_nameTags_p65 at h
  refine kz_inc (M := kt_M485) [(0, .ref (w_adr E.2.1 12 0)), (1, .int x1), (2, .int x2), (3, .int x3)] kX13_nameTags_c4.2.2.2.2.2.2.1 rfl (Nat.le_of_ble_eq_true rfl) ⟨⟨rfl, rfl, .inl rfl⟩, ⟨⟨rfl, rfl, .inl rfl⟩, ⟨⟨rfl, rfl, .inl rfl⟩, ⟨⟨rfl, rfl, .inr rfl⟩, trivial⟩⟩⟩⟩ rfl ?_
  refine kz_goto (M := kt_M485) kX13_nameTags_c4.2.2.2.2.2.2.2.1 (t := 29) rfl ?_
  exact kz_weak [(0, .ref (w_adr E.2.1 12 0)), (1, .int x1), (2, .int x2), (3, .int x3), (4, .int (x4 + 1))] ⟨rfl, ⟨rfl, ⟨rfl, ⟨rfl, ⟨rfl, trivial⟩⟩⟩⟩⟩ rfl h
def zb_X13_nameTags_p29 (E : zE) (L : Nat) (Q : kx_Rs → wS → Prop) (x1 : Int32) (x2 : Int32) (x3 : Int32) (x4 : Int32) (w : wS) : Prop := (if w_i w 12 0 44 ≤ x4 then (kx_inb x3 (w_n w 12 0 30) = true ∧ (kx_inb x1 (w_n w 12 0 31) = true ∧ (kx_inb x3 (w_n w 12 0 27) = true ∧ zw E (L - 28) kt_M550 [.ref (w_adr E.2.1 12 0), .int (w_a w 12 0 30 (x3).toNatClampNeg), .int 6, .int (16 + (w_a w 12 0 31 (x1).toNatClampNeg)), .int ((w_i w 12 0 44) - x2), .int x3, .int (w_a w 12 0 27 (x3).toNatClampNeg)] w (wk1 (fun v2 w1 => wle w w1 → (kx_inb x3 (w_n w1 12 0 31) = true ∧ (kx_inb x3 (w_n w1 12 0 32) = true ∧ zL_X13_nameTags_p12 E L Q x1 x2 (w_a w1 12 0 32 (x3).toNatClampNeg) (ws_a w1 12 0 31 (x3).toNatClampNeg v2)))) (fun e w => Q (.inr e) w))))) else (kx_inb x4 (w_n w 12 0 45) = true ∧ (kx_inb x3 (w_n w 12 0 30) = true ∧ (if ¬ w_a w 12 0 45 (x4).toNatClampNeg = w_a w 12 0 30 (x3).toNatClampNeg then zb_X13_nameTags_p65 E L Q x1 x2 x3 x4 w else (kx_inb x3 (w_n w 12 0 27) = true ∧ zw E (L - 22) kt_M560 [.ref (w_adr E.2.1 12 0), .int 4, .int (w_a w 12 0 27 (x3).toNatClampNeg)] w (wk0 (fun w3 => wle w w3 → zb_X13_nameTags_p65 E L Q x1 x2 x3 x4 w3) (fun e w => Q (.inr e) w)))))))
theorem zt_X13_nameTags_p29 {E : zE} {L : Nat} {Q : kx_Rs → wS → Prop} {x1 : Int32} {x2 : Int32} {x3 : Int32} {x4 : Int32} {w : wS} (hL : 28 ≤ L) (h : zb_X13_nameTags_p29 E L Q x1 x2 x3 x4 w) : kzE E L kt_M485 29 [(0, .ref (w_adr E.2.1 12 0)), (1, .int x1), (2, .int x2), (3, .int x3), (4, .int x4)] [] w Q := by
  unfold zb_X13_nameTags_p29 at h
  refine kz_iload (M := kt_M485) kX13_nameTags_c2.2.2.1 rfl ?_
  refine kz_aload_n (M := kt_M485) kX13_nameTags_c2.2.2.2.1 rfl ?_
  refine kz_gfi (M := kt_M485) (c := 12) (o := 0) kX13_nameTags_c2.2.2.2.2.1 wf_X13_722 (.inl rfl) ?_
  refine kz_icmp_ge (M := kt_M485) kX13_nameTags_c2.2.2.2.2.2.1 (t := 71) rfl h (fun h => ?_) (fun h => ?_)
  · skip
    refine kz_aload_n (M := kt_M485) kX13_nameTags_c5.1 rfl ?_
    refine kz_gfc (M := kt_M485) (x := 4103) (c := 12) (o := 0) kX13_nameTags_c5.2.1 wf_X13_202 (.inl rfl) ?_
    refine kz_iload_n (M := kt_M485) kX13_nameTags_c5.2.2.1 rfl ?_
    refine kz_aload_n (M := kt_M485) kX13_nameTags_c5.2.2.2.1 rfl ?_
    refine kz_aload_n (M := kt_M485) kX13_nameTags_c5.2.2.2.2.1 rfl ?_
    refine kz_gfc (M := kt_M485) (x := 4102) (c := 12) (o := 0) kX13_nameTags_c5.2.2.2.2.2.1 wf_X13_199 (.inl rfl) ?_
    refine kz_iload_n (M := kt_M485) kX13_nameTags_c5.2.2.2.2.2.2.1 rfl ?_
    refine kz_iald (M := kt_M485) (c := 12) (o := 0) (k := 30) (a := (E.2.1 4102)) kX13_nameTags_c5.2.2.2.2.2.2.2.1 ow_12_0_30 oa_12_0_30 ot_0 h (fun h => ?_)
    refine kz_bi (M := kt_M485) 6 kX13_nameTags_c6.1 rfl ?_
    refine kz_bi (M := kt_M485) 16 kX13_nameTags_c6.2.1 rfl ?_
    refine kz_aload_n (M := kt_M485) kX13_nameTags_c6.2.2.1 rfl ?_
    refine kz_gfc (M := kt_M485) (x := 4103) (c := 12) (o := 0) kX13_nameTags_c6.2.2.2.1 wf_X13_202 (.inl rfl) ?_
    refine kz_iload_n (M := kt_M485) kX13_nameTags_c6.2.2.2.2.1 rfl ?_
    refine kz_iald (M := kt_M485) (c := 12) (o := 0) (k := 31) (a := (E.2.1 4103)) kX13_nameTags_c6.2.2.2.2.2.1 ow_12_0_31 oa_12_0_31 ot_0 h (fun h => ?_)
    refine kz_iadd (M := kt_M485) kX13_nameTags_c6.2.2.2.2.2.2.1 ?_
    refine kz_aload_n (M := kt_M485) kX13_nameTags_c6.2.2.2.2.2.2.2.1 rfl ?_
    refine kz_gfi (M := kt_M485) (c := 12) (o := 0) kX13_nameTags_c7.1 wf_X13_722 (.inl rfl) ?_
    refine kz_iload_n (M := kt_M485) kX13_nameTags_c7.2.1 rfl ?_
    refine kz_isub (M := kt_M485) kX13_nameTags_c7.2.2.1 ?_
    refine kz_iload_n (M := kt_M485) kX13_nameTags_c7.2.2.2.1 rfl ?_
    refine kz_aload_n (M := kt_M485) kX13_nameTags_c7.2.2.2.2.1 rfl ?_
    refine kz_gfc (M := kt_M485) (x := 4099) (c := 12) (o := 0) kX13_nameTags_c7.2.2.2.2.2.1 wf_X13_190 (.inl rfl) ?_
    refine kz_iload_n (M := kt_M485) kX13_nameTags_c7.2.2.2.2.2.2.1 rfl ?_
    refine kz_iald (M := kt_M485) (c := 12) (o := 0) (k := 27) (a := (E.2.1 4099)) kX13_nameTags_c7.2.2.2.2.2.2.2.1 ow_12_0_27 oa_12_0_27 ot_0 h (fun h => ?_)
    refine kz_cv1 (M := kt_M485) (c := 12) (o := 0) (As := [.int (w_a w 12 0 30 (x3).toNatClampNeg), .int 6, .int (16 + (w_a w 12 0 31 (x1).toNatClampNeg)), .int ((w_i w 12 0 44) - x2), .int x3, .int (w_a w 12 0 27 (x3).toNatClampNeg)]) (rest := [.int x3, .ref (E.2.1 4103)]) kX13_nameTags_c8.1 wl_X13_759 wMv_550 rfl (.inl rfl) rfl (Nat.le_trans (Nat.le_of_ble_eq_true rfl) hL) (Nat.le_of_ble_eq_true rfl) (Nat.le_of_ble_eq_true rfl) h (fun v2 w1 hle h => ?_) (fun _ _ _ h => kzx_no rfl h)
    have h := h hle
    refine kz_iast (M := kt_M485) (c := 12) (o := 0) (k := 31) (a := (E.2.1 4103)) kX13_nameTags_c8.2.1 ow_12_0_31 oa_12_0_31 ot_0 h (fun h => ?_)
    refine kz_aload_n (M := kt_M485) kX13_nameTags_c8.2.2.1 rfl ?_
    refine kz_gfc (M := kt_M485) (x := 4104) (c := 12) (o := 0) kX13_nameTags_c8.2.2.2.1 wf_X13_205 (.inl rfl) ?_
    refine kz_iload_n (M := kt_M485) kX13_nameTags_c8.2.2.2.2.1 rfl ?_
    refine kz_ialdR (M := kt_M485) (n := w_n w1 12 0 32) (c := 12) (o := 0) (k := 32) (a := (E.2.1 4104)) (w_a w1 12 0 32 (x3).toNatClampNeg) kX13_nameTags_c8.2.2.2.2.2.1 ow_12_0_32 oa_12_0_32 ot_0 rd_n_a (rd_a_a rfl) h (fun h => ?_)
    refine kz_sti_n (M := kt_M485) [(0, .ref (w_adr E.2.1 12 0)), (1, .int x1), (2, .int x2)] kX13_nameTags_c8.2.2.2.2.2.2.1 (Nat.le_of_ble_eq_true rfl) ⟨⟨rfl, rfl, .inl rfl⟩, ⟨⟨rfl, rfl, .inl rfl⟩, ⟨⟨rfl, rfl, .inr rfl⟩, trivial⟩⟩⟩ rfl ?_
    refine kz_goto (M := kt_M485) kX13_nameTags_c8.2.2.2.2.2.2.2.1 (t := 12) rfl ?_
    exact kz_weak [(0, .ref (w_adr E.2.1 12 0)), (1, .int x1), (2, .int x2), (3, .int (w_a w1 12 0 32 (x3).toNatClampNeg))] ⟨rfl, ⟨rfl, ⟨rfl, ⟨rfl, trivial⟩⟩⟩⟩ rfl h
  · skip
    refine kz_aload_n (M := kt_M485) kX13_nameTags_c2.2.2.2.2.2.2.1 rfl ?_
    refine kz_gfc (M := kt_M485) (x := 4117) (c := 12) (o := 0) kX13_nameTags_c2.2.2.2.2.2.2.2.1 wf_X13_220 (.inl rfl) ?_
    refine kz_iload (M := kt_M485) kX13_nameTags_c3.1 rfl ?_
    refine kz_iald (M := kt_M485) (c := 12) (o := 0) (k := 45) (a := (E.2.1 4117)) kX13_nameTags_c3.2.1 ow_12_0_45 oa_12_0_45 ot_0 h (fun h => ?_)
    refine kz_aload_n (M := kt_M485) kX13_nameTags_c3.2.2.1 rfl ?_
    refine kz_gfc (M := kt_M485) (x := 4102) (c := 12) (o := 0) kX13_nameTags_c3.2.2.2.1 wf_X13_199 (.inl rfl) ?_
    refine kz_iload_n (M := kt_M485) kX13_nameTags_c3.2.2.2.2.1 rfl ?_
    refine kz_iald (M := kt_M485) (c := 12) (o := 0) (k := 30) (a := (E.2.1 4102)) kX13_nameTags_c3.2.2.2.2.2.1 ow_12_0_30 oa_12_0_30 ot_0 h (fun h => ?_)
    refine kz_icmp_ne (M := kt_M485) kX13_nameTags_c3.2.2.2.2.2.2.1 (t := 65) rfl h (fun h => ?_) (fun h => ?_)
    · skip
      exact kz_weak [(0, .ref (w_adr E.2.1 12 0)), (1, .int x1), (2, .int x2), (3, .int x3), (4, .int x4)] ⟨rfl, ⟨rfl, ⟨rfl, ⟨rfl, ⟨rfl, trivial⟩⟩⟩⟩⟩ rfl (zt_X13_nameTags_p65 hL  h)
    · skip
      refine kz_aload_n (M := kt_M485) kX13_nameTags_c3.2.2.2.2.2.2.2.1 rfl ?_
      refine kz_ic (M := kt_M485) 4 kX13_nameTags_c4.1 rfl ?_
      refine kz_aload_n (M := kt_M485) kX13_nameTags_c4.2.1 rfl ?_
      refine kz_gfc (M := kt_M485) (x := 4099) (c := 12) (o := 0) kX13_nameTags_c4.2.2.1 wf_X13_190 (.inl rfl) ?_
      refine kz_iload_n (M := kt_M485) kX13_nameTags_c4.2.2.2.1 rfl ?_
      refine kz_iald (M := kt_M485) (c := 12) (o := 0) (k := 27) (a := (E.2.1 4099)) kX13_nameTags_c4.2.2.2.2.1 ow_12_0_27 oa_12_0_27 ot_0 h (fun h => ?_)
      refine kz_cv0 (M := kt_M485) (c := 12) (o := 0) (As := [.int 4, .int (w_a w 12 0 27 (x3).toNatClampNeg)]) (rest := []) kX13_nameTags_c4.2.2.2.2.2.1 wl_X13_734 wMv_560 rfl (.inl rfl) rfl (Nat.le_trans (Nat.le_of_ble_eq_true rfl) hL) (Nat.le_of_ble_eq_true rfl) (Nat.le_of_ble_eq_true rfl) h (fun w3 hle h => ?_) (fun _ _ _ h => kzx_no rfl h)
      have h := h hle
      exact kz_weak [(0, .ref (w_adr E.2.1 12 0)), (1, .int x1), (2, .int x2), (3, .int x3), (4, .int x4)] ⟨rfl, ⟨rfl, ⟨rfl, ⟨rfl, ⟨rfl, trivial⟩⟩⟩⟩⟩ rfl (zt_X13_nameTags_p65 hL  h)
def zb_X13_nameTags_p12 (E : zE) (L : Nat) (Q : kx_Rs → wS → Prop) (x1 : Int32) (x2 : Int32) (x3 : Int32) (w : wS) : Prop := (if x3 < 0 then (kx_inb x1 (w_n w 12 0 31) = true ∧ zw E (L - 21) kt_M455 [.ref (w_adr E.2.1 12 0), .int (w_a w 12 0 31 (x1).toNatClampNeg)] w (wk0 (fun w1 => wle w w1 → (kx_inb x1 (w_n w1 12 0 29) = true ∧ zL_X13_nameTags_p138 E L Q (w_a w1 12 0 29 (x1).toNatClampNeg) w1)) (fun e w => Q (.inr e) w))) else (kx_inb x3 (w_n w 12 0 29) = true ∧ zw E (L - 22) kt_M483 [.ref (w_adr E.2.1 12 0), .int (w_a w 12 0 29 (x3).toNatClampNeg)] w (wk0 (fun w3 => wle w w3 → zL_X13_nameTags_p29 E L Q x1 x2 x3 x2 w3) (fun e w => Q (.inr e) w))))
theorem zt_X13_nameTags_p12 {E : zE} {L : Nat} {Q : kx_Rs → wS → Prop} {x1 : Int32} {x2 : Int32} {x3 : Int32} {w : wS} (hL : 28 ≤ L) (h : zb_X13_nameTags_p12 E L Q x1 x2 x3 w) : kzE E L kt_M485 12 [(0, .ref (w_adr E.2.1 12 0)), (1, .int x1), (2, .int x2), (3, .int x3)] [] w Q := by
  unfold zb_X13_nameTags_p12 at h
  refine kz_iload_n (M := kt_M485) kX13_nameTags_c1.1 rfl ?_
  refine kz_if_lt (M := kt_M485) kX13_nameTags_c1.2.1 (t := 121) rfl h (fun h => ?_) (fun h => ?_)
  · skip
    refine kz_aload_n (M := kt_M485) kX13_nameTags_c9.1 rfl ?_
    refine kz_aload_n (M := kt_M485) kX13_nameTags_c9.2.1 rfl ?_
    refine kz_gfc (M := kt_M485) (x := 4103) (c := 12) (o := 0) kX13_nameTags_c9.2.2.1 wf_X13_202 (.inl rfl) ?_
    refine kz_iload_n (M := kt_M485) kX13_nameTags_c9.2.2.2.1 rfl ?_
    refine kz_iald (M := kt_M485) (c := 12) (o := 0) (k := 31) (a := (E.2.1 4103)) kX13_nameTags_c9.2.2.2.2.1 ow_12_0_31 oa_12_0_31 ot_0 h (fun h => ?_)
    refine kz_cv0 (M := kt_M485) (c := 12) (o := 0) (As := [.int (w_a w 12 0 31 (x1).toNatClampNeg)]) (rest := []) kX13_nameTags_c9.2.2.2.2.2.1 wl_X13_763 wMv_455 rfl (.inl rfl) rfl (Nat.le_trans (Nat.le_of_ble_eq_true rfl) hL) (Nat.le_of_ble_eq_true rfl) (Nat.le_of_ble_eq_true rfl) h (fun w1 hle h => ?_) (fun _ _ _ h => kzx_no rfl h)
    have h := h hle
    refine kz_aload_n (M := kt_M485) kX13_nameTags_c9.2.2.2.2.2.2.1 rfl ?_
    refine kz_gfc (M := kt_M485) (x := 4101) (c := 12) (o := 0) kX13_nameTags_c9.2.2.2.2.2.2.2.1 wf_X13_196 (.inl rfl) ?_
    refine kz_iload_n (M := kt_M485) kX13_nameTags_c10.1 rfl ?_
    refine kz_iald (M := kt_M485) (c := 12) (o := 0) (k := 29) (a := (E.2.1 4101)) kX13_nameTags_c10.2.1 ow_12_0_29 oa_12_0_29 ot_0 h (fun h => ?_)
    refine kz_sti_n (M := kt_M485) [(0, .ref (w_adr E.2.1 12 0))] kX13_nameTags_c10.2.2.1 (Nat.le_of_ble_eq_true rfl) ⟨⟨rfl, rfl, .inl rfl⟩, trivial⟩ rfl ?_
    exact kz_weak [(0, .ref (w_adr E.2.1 12 0)), (3, .int (w_a w1 12 0 29 (x1).toNatClampNeg))] ⟨rfl, ⟨rfl, trivial⟩⟩ rfl h
  · skip
    refine kz_aload_n (M := kt_M485) kX13_nameTags_c1.2.2.1 rfl ?_
    refine kz_aload_n (M := kt_M485) kX13_nameTags_c1.2.2.2.1 rfl ?_
    refine kz_gfc (M := kt_M485) (x := 4101) (c := 12) (o := 0) kX13_nameTags_c1.2.2.2.2.1 wf_X13_196 (.inl rfl) ?_
    refine kz_iload_n (M := kt_M485) kX13_nameTags_c1.2.2.2.2.2.1 rfl ?_
    refine kz_iald (M := kt_M485) (c := 12) (o := 0) (k := 29) (a := (E.2.1 4101)) kX13_nameTags_c1.2.2.2.2.2.2.1 ow_12_0_29 oa_12_0_29 ot_0 h (fun h => ?_)
    refine kz_cv0 (M := kt_M485) (c := 12) (o := 0) (As := [.int (w_a w 12 0 29 (x3).toNatClampNeg)]) (rest := []) kX13_nameTags_c1.2.2.2.2.2.2.2.1 wl_X13_796 wMv_483 rfl (.inl rfl) rfl (Nat.le_trans (Nat.le_of_ble_eq_true rfl) hL) (Nat.le_of_ble_eq_true rfl) (Nat.le_of_ble_eq_true rfl) h (fun w3 hle h => ?_) (fun _ _ _ h => kzx_no rfl h)
    have h := h hle
    refine kz_iload_n (M := kt_M485) kX13_nameTags_c2.1 rfl ?_
    refine kz_sti (M := kt_M485) [(0, .ref (w_adr E.2.1 12 0)), (1, .int x1), (2, .int x2), (3, .int x3)] kX13_nameTags_c2.2.1 (Nat.le_of_ble_eq_true rfl) ⟨⟨rfl, rfl, .inl rfl⟩, ⟨⟨rfl, rfl, .inl rfl⟩, ⟨⟨rfl, rfl, .inl rfl⟩, ⟨⟨rfl, rfl, .inr rfl⟩, trivial⟩⟩⟩⟩ rfl ?_
    exact kz_weak [(0, .ref (w_adr E.2.1 12 0)), (1, .int x1), (2, .int x2), (3, .int x3), (4, .int x2)] ⟨rfl, ⟨rfl, ⟨rfl, ⟨rfl, ⟨rfl, trivial⟩⟩⟩⟩⟩ rfl h
def zb_X13_nameTags_p0 (E : zE) (L : Nat) (Q : kx_Rs → wS → Prop) (x1 : Int32) (w : wS) : Prop := (kx_inb x1 (w_n w 12 0 29) = true ∧ zL_X13_nameTags_p12 E L Q x1 (w_i w 12 0 44) (w_a w 12 0 29 (x1).toNatClampNeg) w)
theorem zt_X13_nameTags_p0 {E : zE} {L : Nat} {Q : kx_Rs → wS → Prop} {x1 : Int32} {w : wS} (hL : 28 ≤ L) (h : zb_X13_nameTags_p0 E L Q x1 w) : kzE E L kt_M485 0 [(0, .ref (w_adr E.2.1 12 0)), (1, .int x1)] [] w Q := by
  unfold zb_X13_nameTags_p0 at h
  refine kz_aload_n (M := kt_M485) kX13_nameTags_c0.1 rfl ?_
  refine kz_gfi (M := kt_M485) (c := 12) (o := 0) kX13_nameTags_c0.2.1 wf_X13_722 (.inl rfl) ?_
  refine kz_sti_n (M := kt_M485) [(0, .ref (w_adr E.2.1 12 0)), (1, .int x1)] kX13_nameTags_c0.2.2.1 (Nat.le_of_ble_eq_true rfl) ⟨⟨rfl, rfl, .inl rfl⟩, ⟨⟨rfl, rfl, .inr rfl⟩, trivial⟩⟩ rfl ?_
  refine kz_aload_n (M := kt_M485) kX13_nameTags_c0.2.2.2.1 rfl ?_
  refine kz_gfc (M := kt_M485) (x := 4101) (c := 12) (o := 0) kX13_nameTags_c0.2.2.2.2.1 wf_X13_196 (.inl rfl) ?_
  refine kz_iload_n (M := kt_M485) kX13_nameTags_c0.2.2.2.2.2.1 rfl ?_
  refine kz_iald (M := kt_M485) (c := 12) (o := 0) (k := 29) (a := (E.2.1 4101)) kX13_nameTags_c0.2.2.2.2.2.2.1 ow_12_0_29 oa_12_0_29 ot_0 h (fun h => ?_)
  refine kz_sti_n (M := kt_M485) [(0, .ref (w_adr E.2.1 12 0)), (1, .int x1), (2, .int (w_i w 12 0 44))] kX13_nameTags_c0.2.2.2.2.2.2.2.1 (Nat.le_of_ble_eq_true rfl) ⟨⟨rfl, rfl, .inl rfl⟩, ⟨⟨rfl, rfl, .inl rfl⟩, ⟨⟨rfl, rfl, .inr rfl⟩, trivial⟩⟩⟩ rfl ?_
  exact kz_weak [(0, .ref (w_adr E.2.1 12 0)), (1, .int x1), (2, .int (w_i w 12 0 44)), (3, .int (w_a w 12 0 29 (x1).toNatClampNeg))] ⟨rfl, ⟨rfl, ⟨rfl, ⟨rfl, trivial⟩⟩⟩⟩ rfl h
def zb_X13_nameUnit_p155 (E : zE) (L : Nat) (Q : kx_Rs → wS → Prop) (x1 : Int32) (x3 : Int32) (x4 : Int32) (x5 : Int32) (w : wS) : Prop := (kx_inb x1 (w_n w 12 0 31) = true ∧ Q (.inl none) (ws_a (ws_i (ws_i w 12 0 56 x5) 12 0 62 x4) 12 0 31 (x1).toNatClampNeg x3))
theorem zt_X13_nameUnit_p155 {E : zE} {L : Nat} {Q : kx_Rs → wS → Prop} {x1 : Int32} {x3 : Int32} {x4 : Int32} {x5 : Int32} {w : wS} (hL : 28 ≤ L) (h : zb_X13_nameUnit_p155 E L Q x1 x3 x4 x5 w) : kzE E L kt_M486 155 [(0, .ref (w_adr E.2.1 12 0)), (1, .int x1), (3, .int x3), (4, .int x4), (5, .int x5)] [] w Q := by
  unfold zb_X13_nameUnit_p155 at h
  refine kz_aload_n (M := kt_M486) kX13_nameUnit_c11.2.2.1 rfl ?_
  refine kz_iload (M := kt_M486) kX13_nameUnit_c11.2.2.2.1 rfl ?_
  refine kz_pfi (M := kt_M486) (c := 12) (o := 0) kX13_nameUnit_c11.2.2.2.2.1 wq_X13_728 (.inl rfl) ?_
  refine kz_aload_n (M := kt_M486) kX13_nameUnit_c11.2.2.2.2.2.1 rfl ?_
  refine kz_iload (M := kt_M486) kX13_nameUnit_c11.2.2.2.2.2.2.1 rfl ?_
  refine kz_pfi (M := kt_M486) (c := 12) (o := 0) kX13_nameUnit_c11.2.2.2.2.2.2.2.1 wq_X13_725 (.inl rfl) ?_
  refine kz_aload_n (M := kt_M486) kX13_nameUnit_c12.1 rfl ?_
  refine kz_gfc (M := kt_M486) (x := 4103) (c := 12) (o := 0) kX13_nameUnit_c12.2.1 wf_X13_202 (.inl rfl) ?_
  refine kz_iload_n (M := kt_M486) kX13_nameUnit_c12.2.2.1 rfl ?_
  refine kz_iload_n (M := kt_M486) kX13_nameUnit_c12.2.2.2.1 rfl ?_
  refine kz_iastR (M := kt_M486) (n := w_n w 12 0 31) (c := 12) (o := 0) (k := 31) (a := (E.2.1 4103)) kX13_nameUnit_c12.2.2.2.2.1 ow_12_0_31 oa_12_0_31 ot_0 (rd_n_i.trans rd_n_i) h (fun h => ?_)
  exact kz_ret (M := kt_M486) kX13_nameUnit_c12.2.2.2.2.2.1 rfl h
def zb_X13_nameUnit_p140 (E : zE) (L : Nat) (Q : kx_Rs → wS → Prop) (x1 : Int32) (x2 : Int32) (x3 : Int32) (x4 : Int32) (x5 : Int32) (w : wS) : Prop := (if x2 = 0 then zb_X13_nameUnit_p155 E L Q x1 x3 x4 x5 w else (kx_inb x1 (w_n w 12 0 41) = true ∧ zw E (L - 24) kt_M476 [.ref (w_adr E.2.1 12 0), .int (w_a w 12 0 41 (x1).toNatClampNeg), .int 0] w (wk0 (fun w1 => wle w w1 → zb_X13_nameUnit_p155 E L Q x1 x3 x4 x5 w1) (fun e w => Q (.inr e) w))))
theorem zt_X13_nameUnit_p140 {E : zE} {L : Nat} {Q : kx_Rs → wS → Prop} {x1 : Int32} {x2 : Int32} {x3 : Int32} {x4 : Int32} {x5 : Int32} {w : wS} (hL : 28 ≤ L) (h : zb_X13_nameUnit_p140 E L Q x1 x2 x3 x4 x5 w) : kzE E L kt_M486 140 [(0, .ref (w_adr E.2.1 12 0)), (1, .int x1), (2, .int x2), (3, .int x3), (4, .int x4), (5, .int x5)] [] w Q := by
  unfold zb_X13_nameUnit_p140 at h
  refine kz_iload_n (M := kt_M486) kX13_nameUnit_c10.2.1 rfl ?_
  refine kz_if_eq (M := kt_M486) kX13_nameUnit_c10.2.2.1 (t := 155) rfl h (fun h => ?_) (fun h => ?_)
  · skip
    exact kz_weak [(0, .ref (w_adr E.2.1 12 0)), (1, .int x1), (3, .int x3), (4, .int x4), (5, .int x5)] ⟨rfl, ⟨rfl, ⟨rfl, ⟨rfl, ⟨rfl, trivial⟩⟩⟩⟩⟩ rfl (zt_X13_nameUnit_p155 hL  h)
  · skip
    refine kz_aload_n (M := kt_M486) kX13_nameUnit_c10.2.2.2.1 rfl ?_
    refine kz_aload_n (M := kt_M486) kX13_nameUnit_c10.2.2.2.2.1 rfl ?_
    refine kz_gfc (M := kt_M486) (x := 4113) (c := 12) (o := 0) kX13_nameUnit_c10.2.2.2.2.2.1 wf_X13_214 (.inl rfl) ?_
    refine kz_iload_n (M := kt_M486) kX13_nameUnit_c10.2.2.2.2.2.2.1 rfl ?_
    refine kz_iald (M := kt_M486) (c := 12) (o := 0) (k := 41) (a := (E.2.1 4113)) kX13_nameUnit_c10.2.2.2.2.2.2.2.1 ow_12_0_41 oa_12_0_41 ot_0 h (fun h => ?_)
    refine kz_ic (M := kt_M486) 0 kX13_nameUnit_c11.1 rfl ?_
    refine kz_cv0 (M := kt_M486) (c := 12) (o := 0) (As := [.int (w_a w 12 0 41 (x1).toNatClampNeg), .int 0]) (rest := []) kX13_nameUnit_c11.2.1 wl_X13_743 wMv_476 rfl (.inl rfl) rfl (Nat.le_trans (Nat.le_of_ble_eq_true rfl) hL) (Nat.le_of_ble_eq_true rfl) (Nat.le_of_ble_eq_true rfl) h (fun w1 hle h => ?_) (fun _ _ _ h => kzx_no rfl h)
    have h := h hle
    exact kz_weak [(0, .ref (w_adr E.2.1 12 0)), (1, .int x1), (3, .int x3), (4, .int x4), (5, .int x5)] ⟨rfl, ⟨rfl, ⟨rfl, ⟨rfl, ⟨rfl, trivial⟩⟩⟩⟩⟩ rfl (zt_X13_nameUnit_p155 hL  h)
def zb_X13_nameUnit_p121 (E : zE) (L : Nat) (Q : kx_Rs → wS → Prop) (x1 : Int32) (x2 : Int32) (x3 : Int32) (x4 : Int32) (x5 : Int32) (w : wS) : Prop := (kx_inb x1 (w_n w 12 0 29) = true ∧ (if w_a w 12 0 29 (x1).toNatClampNeg < 0 then zb_X13_nameUnit_p140 E L Q x1 x2 x3 x4 x5 w else (kx_inb x1 (w_n w 12 0 29) = true ∧ zw E (L - 22) kt_M473 [.ref (w_adr E.2.1 12 0), .int (w_a w 12 0 29 (x1).toNatClampNeg)] w (wk0 (fun w1 => wle w w1 → zb_X13_nameUnit_p140 E L Q x1 x2 x3 x4 x5 w1) (fun e w => Q (.inr e) w)))))
theorem zt_X13_nameUnit_p121 {E : zE} {L : Nat} {Q : kx_Rs → wS → Prop} {x1 : Int32} {x2 : Int32} {x3 : Int32} {x4 : Int32} {x5 : Int32} {w : wS} (hL : 28 ≤ L) (h : zb_X13_nameUnit_p121 E L Q x1 x2 x3 x4 x5 w) : kzE E L kt_M486 121 [(0, .ref (w_adr E.2.1 12 0)), (1, .int x1), (2, .int x2), (3, .int x3), (4, .int x4), (5, .int x5)] [] w Q := by
  unfold zb_X13_nameUnit_p121 at h
  refine kz_aload_n (M := kt_M486) kX13_nameUnit_c8.2.2.2.2.2.2.1 rfl ?_
  refine kz_gfc (M := kt_M486) (x := 4101) (c := 12) (o := 0) kX13_nameUnit_c8.2.2.2.2.2.2.2.1 wf_X13_196 (.inl rfl) ?_
  refine kz_iload_n (M := kt_M486) kX13_nameUnit_c9.1 rfl ?_
  refine kz_iald (M := kt_M486) (c := 12) (o := 0) (k := 29) (a := (E.2.1 4101)) kX13_nameUnit_c9.2.1 ow_12_0_29 oa_12_0_29 ot_0 h (fun h => ?_)
  refine kz_if_lt (M := kt_M486) kX13_nameUnit_c9.2.2.1 (t := 140) rfl h (fun h => ?_) (fun h => ?_)
  · skip
    exact kz_weak [(0, .ref (w_adr E.2.1 12 0)), (1, .int x1), (2, .int x2), (3, .int x3), (4, .int x4), (5, .int x5)] ⟨rfl, ⟨rfl, ⟨rfl, ⟨rfl, ⟨rfl, ⟨rfl, trivial⟩⟩⟩⟩⟩⟩ rfl (zt_X13_nameUnit_p140 hL  h)
  · skip
    refine kz_aload_n (M := kt_M486) kX13_nameUnit_c9.2.2.2.1 rfl ?_
    refine kz_aload_n (M := kt_M486) kX13_nameUnit_c9.2.2.2.2.1 rfl ?_
    refine kz_gfc (M := kt_M486) (x := 4101) (c := 12) (o := 0) kX13_nameUnit_c9.2.2.2.2.2.1 wf_X13_196 (.inl rfl) ?_
    refine kz_iload_n (M := kt_M486) kX13_nameUnit_c9.2.2.2.2.2.2.1 rfl ?_
    refine kz_iald (M := kt_M486) (c := 12) (o := 0) (k := 29) (a := (E.2.1 4101)) kX13_nameUnit_c9.2.2.2.2.2.2.2.1 ow_12_0_29 oa_12_0_29 ot_0 h (fun h => ?_)
    refine kz_cv0 (M := kt_M486) (c := 12) (o := 0) (As := [.int (w_a w 12 0 29 (x1).toNatClampNeg)]) (rest := []) kX13_nameUnit_c10.1 wl_X13_772 wMv_473 rfl (.inl rfl) rfl (Nat.le_trans (Nat.le_of_ble_eq_true rfl) hL) (Nat.le_of_ble_eq_true rfl) (Nat.le_of_ble_eq_true rfl) h (fun w1 hle h => ?_) (fun _ _ _ h => kzx_no rfl h)
    have h := h hle
    exact kz_weak [(0, .ref (w_adr E.2.1 12 0)), (1, .int x1), (2, .int x2), (3, .int x3), (4, .int x4), (5, .int x5)] ⟨rfl, ⟨rfl, ⟨rfl, ⟨rfl, ⟨rfl, ⟨rfl, trivial⟩⟩⟩⟩⟩⟩ rfl (zt_X13_nameUnit_p140 hL  h)
def zb_X13_nameUnit_p49 (E : zE) (L : Nat) (Q : kx_Rs → wS → Prop) (x1 : Int32) (x2 : Int32) (y0 : Int32) (y1 : Int32) (y2 : Int32) (w : wS) : Prop := (kx_inb x1 (w_n w 12 0 27) = true ∧ zw E (L - 28) kt_M550 [.ref (w_adr E.2.1 12 0), .int y2, .int y1, .int y0, .int (-1), .int x1, .int (w_a w 12 0 27 (x1).toNatClampNeg)] w (wk1 (fun v2 w1 => wle w w1 → zw E (L - 20) kt_M492 [.ref (w_adr E.2.1 12 0)] w1 (wk1 (fun v4 w3 => wle w1 w3 → (kx_inb x1 (w_n w3 12 0 63) = true ∧ (kx_inb x1 (w_n w3 12 0 67) = true ∧ zw E (L - 28) kt_M478 [.ref (w_adr E.2.1 12 0), .int x1, .int x2] (ws_a (ws_a (ws_i w3 12 0 62 v4) 12 0 63 (x1).toNatClampNeg v4) 12 0 67 (x1).toNatClampNeg (w_i w3 12 0 44)) (wk0 (fun w5 => wle (ws_a (ws_a (ws_i w3 12 0 62 v4) 12 0 63 (x1).toNatClampNeg v4) 12 0 67 (x1).toNatClampNeg (w_i w3 12 0 44)) w5 → (if x2 = 0 then zb_X13_nameUnit_p121 E L Q x1 x2 v2 (w_i w1 12 0 62) (w_i w1 12 0 56) w5 else (kx_inb x1 (w_n w5 12 0 42) = true ∧ zw E (L - 22) kt_M475 [.ref (w_adr E.2.1 12 0), .int (w_a w5 12 0 42 (x1).toNatClampNeg)] w5 (wk0 (fun w7 => wle w5 w7 → zb_X13_nameUnit_p121 E L Q x1 x2 v2 (w_i w1 12 0 62) (w_i w1 12 0 56) w7) (fun e w => Q (.inr e) w))))) (fun e w => Q (.inr e) w))))) (fun e w => Q (.inr e) w))) (fun e w => Q (.inr e) w)))
theorem zt_X13_nameUnit_p49 {E : zE} {L : Nat} {Q : kx_Rs → wS → Prop} {x1 : Int32} {x2 : Int32} {y0 : Int32} {y1 : Int32} {y2 : Int32} {w : wS} (hL : 28 ≤ L) (h : zb_X13_nameUnit_p49 E L Q x1 x2 y0 y1 y2 w) : kzE E L kt_M486 49 [(0, .ref (w_adr E.2.1 12 0)), (1, .int x1), (2, .int x2)] [.int y0, .int y1, .int y2, .ref (w_adr E.2.1 12 0)] w Q := by
  unfold zb_X13_nameUnit_p49 at h
  refine kz_ic (M := kt_M486) (-1) kX13_nameUnit_c3.2.2.2.2.1 rfl ?_
  refine kz_iload_n (M := kt_M486) kX13_nameUnit_c3.2.2.2.2.2.1 rfl ?_
  refine kz_aload_n (M := kt_M486) kX13_nameUnit_c3.2.2.2.2.2.2.1 rfl ?_
  refine kz_gfc (M := kt_M486) (x := 4099) (c := 12) (o := 0) kX13_nameUnit_c3.2.2.2.2.2.2.2.1 wf_X13_190 (.inl rfl) ?_
  refine kz_iload_n (M := kt_M486) kX13_nameUnit_c4.1 rfl ?_
  refine kz_iald (M := kt_M486) (c := 12) (o := 0) (k := 27) (a := (E.2.1 4099)) kX13_nameUnit_c4.2.1 ow_12_0_27 oa_12_0_27 ot_0 h (fun h => ?_)
  refine kz_cv1 (M := kt_M486) (c := 12) (o := 0) (As := [.int y2, .int y1, .int y0, .int (-1), .int x1, .int (w_a w 12 0 27 (x1).toNatClampNeg)]) (rest := []) kX13_nameUnit_c4.2.2.1 wl_X13_759 wMv_550 rfl (.inl rfl) rfl (Nat.le_trans (Nat.le_of_ble_eq_true rfl) hL) (Nat.le_of_ble_eq_true rfl) (Nat.le_of_ble_eq_true rfl) h (fun v2 w1 hle h => ?_) (fun _ _ _ h => kzx_no rfl h)
  have h := h hle
  refine kz_sti_n (M := kt_M486) [(0, .ref (w_adr E.2.1 12 0)), (1, .int x1), (2, .int x2)] kX13_nameUnit_c4.2.2.2.1 (Nat.le_of_ble_eq_true rfl) ⟨⟨rfl, rfl, .inl rfl⟩, ⟨⟨rfl, rfl, .inl rfl⟩, ⟨⟨rfl, rfl, .inr rfl⟩, trivial⟩⟩⟩ rfl ?_
  refine kz_aload_n (M := kt_M486) kX13_nameUnit_c4.2.2.2.2.1 rfl ?_
  refine kz_gfi (M := kt_M486) (c := 12) (o := 0) kX13_nameUnit_c4.2.2.2.2.2.1 wf_X13_725 (.inl rfl) ?_
  refine kz_sti (M := kt_M486) [(0, .ref (w_adr E.2.1 12 0)), (1, .int x1), (2, .int x2), (3, .int v2)] kX13_nameUnit_c4.2.2.2.2.2.2.1 (Nat.le_of_ble_eq_true rfl) ⟨⟨rfl, rfl, .inl rfl⟩, ⟨⟨rfl, rfl, .inl rfl⟩, ⟨⟨rfl, rfl, .inl rfl⟩, ⟨⟨rfl, rfl, .inr rfl⟩, trivial⟩⟩⟩⟩ rfl ?_
  refine kz_aload_n (M := kt_M486) kX13_nameUnit_c4.2.2.2.2.2.2.2.1 rfl ?_
  refine kz_gfi (M := kt_M486) (c := 12) (o := 0) kX13_nameUnit_c5.1 wf_X13_728 (.inl rfl) ?_
  refine kz_sti (M := kt_M486) [(0, .ref (w_adr E.2.1 12 0)), (1, .int x1), (2, .int x2), (3, .int v2), (4, .int (w_i w1 12 0 62))] kX13_nameUnit_c5.2.1 (Nat.le_of_ble_eq_true rfl) ⟨⟨rfl, rfl, .inl rfl⟩, ⟨⟨rfl, rfl, .inl rfl⟩, ⟨⟨rfl, rfl, .inl rfl⟩, ⟨⟨rfl, rfl, .inl rfl⟩, ⟨⟨rfl, rfl, .inr rfl⟩, trivial⟩⟩⟩⟩⟩ rfl ?_
  refine kz_aload_n (M := kt_M486) kX13_nameUnit_c5.2.2.1 rfl ?_
  refine kz_aload_n (M := kt_M486) kX13_nameUnit_c5.2.2.2.1 rfl ?_
  refine kz_cv1 (M := kt_M486) (c := 12) (o := 0) (As := []) (rest := [.ref (w_adr E.2.1 12 0)]) kX13_nameUnit_c5.2.2.2.2.1 wl_X13_787 wMv_492 rfl (.inl rfl) rfl (Nat.le_trans (Nat.le_of_ble_eq_true rfl) hL) (Nat.le_of_ble_eq_true rfl) (Nat.le_of_ble_eq_true rfl) h (fun v4 w3 hle h => ?_) (fun _ _ _ h => kzx_no rfl h)
  have h := h hle
  refine kz_pfi (M := kt_M486) (c := 12) (o := 0) kX13_nameUnit_c5.2.2.2.2.2.1 wq_X13_725 (.inl rfl) ?_
  refine kz_aload_n (M := kt_M486) kX13_nameUnit_c5.2.2.2.2.2.2.1 rfl ?_
  refine kz_gfc (M := kt_M486) (x := 4135) (c := 12) (o := 0) kX13_nameUnit_c5.2.2.2.2.2.2.2.1 wf_X13_263 (.inl rfl) ?_
  refine kz_iload_n (M := kt_M486) kX13_nameUnit_c6.1 rfl ?_
  refine kz_aload_n (M := kt_M486) kX13_nameUnit_c6.2.1 rfl ?_
  refine kz_gfiR (M := kt_M486) (c := 12) (o := 0) v4 kX13_nameUnit_c6.2.2.1 wf_X13_725 (.inl rfl) rd_i_e ?_
  refine kz_iastR (M := kt_M486) (n := w_n w3 12 0 63) (c := 12) (o := 0) (k := 63) (a := (E.2.1 4135)) kX13_nameUnit_c6.2.2.2.1 ow_12_0_63 oa_12_0_63 ot_0 rd_n_i h (fun h => ?_)
  refine kz_aload_n (M := kt_M486) kX13_nameUnit_c6.2.2.2.2.1 rfl ?_
  refine kz_gfc (M := kt_M486) (x := 4139) (c := 12) (o := 0) kX13_nameUnit_c6.2.2.2.2.2.1 wf_X13_269 (.inl rfl) ?_
  refine kz_iload_n (M := kt_M486) kX13_nameUnit_c6.2.2.2.2.2.2.1 rfl ?_
  refine kz_aload_n (M := kt_M486) kX13_nameUnit_c6.2.2.2.2.2.2.2.1 rfl ?_
  refine kz_gfiR (M := kt_M486) (c := 12) (o := 0) (w_i w3 12 0 44) kX13_nameUnit_c7.1 wf_X13_722 (.inl rfl) (rd_i_a.trans (rd_i_i rfl)) ?_
  refine kz_iastR (M := kt_M486) (n := w_n w3 12 0 67) (c := 12) (o := 0) (k := 67) (a := (E.2.1 4139)) kX13_nameUnit_c7.2.1 ow_12_0_67 oa_12_0_67 ot_0 (rd_n_a.trans rd_n_i) h (fun h => ?_)
  refine kz_aload_n (M := kt_M486) kX13_nameUnit_c7.2.2.1 rfl ?_
  refine kz_iload_n (M := kt_M486) kX13_nameUnit_c7.2.2.2.1 rfl ?_
  refine kz_iload_n (M := kt_M486) kX13_nameUnit_c7.2.2.2.2.1 rfl ?_
  refine kz_cv0 (M := kt_M486) (c := 12) (o := 0) (As := [.int x1, .int x2]) (rest := []) kX13_nameUnit_c7.2.2.2.2.2.1 wl_X13_805 wMv_478 rfl (.inl rfl) rfl (Nat.le_trans (Nat.le_of_ble_eq_true rfl) hL) (Nat.le_of_ble_eq_true rfl) (Nat.le_of_ble_eq_true rfl) h (fun w5 hle h => ?_) (fun _ _ _ h => kzx_no rfl h)
  have h := h hle
  refine kz_iload_n (M := kt_M486) kX13_nameUnit_c7.2.2.2.2.2.2.1 rfl ?_
  refine kz_if_eq (M := kt_M486) kX13_nameUnit_c7.2.2.2.2.2.2.2.1 (t := 121) rfl h (fun h => ?_) (fun h => ?_)
  · skip
    exact kz_weak [(0, .ref (w_adr E.2.1 12 0)), (1, .int x1), (2, .int x2), (3, .int v2), (4, .int (w_i w1 12 0 62)), (5, .int (w_i w1 12 0 56))] ⟨rfl, ⟨rfl, ⟨rfl, ⟨rfl, ⟨rfl, ⟨rfl, trivial⟩⟩⟩⟩⟩⟩ rfl (zt_X13_nameUnit_p121 hL  h)
  · skip
    refine kz_aload_n (M := kt_M486) kX13_nameUnit_c8.1 rfl ?_
    refine kz_aload_n (M := kt_M486) kX13_nameUnit_c8.2.1 rfl ?_
    refine kz_gfc (M := kt_M486) (x := 4114) (c := 12) (o := 0) kX13_nameUnit_c8.2.2.1 wf_X13_217 (.inl rfl) ?_
    refine kz_iload_n (M := kt_M486) kX13_nameUnit_c8.2.2.2.1 rfl ?_
    refine kz_iald (M := kt_M486) (c := 12) (o := 0) (k := 42) (a := (E.2.1 4114)) kX13_nameUnit_c8.2.2.2.2.1 ow_12_0_42 oa_12_0_42 ot_0 h (fun h => ?_)
    refine kz_cv0 (M := kt_M486) (c := 12) (o := 0) (As := [.int (w_a w5 12 0 42 (x1).toNatClampNeg)]) (rest := []) kX13_nameUnit_c8.2.2.2.2.2.1 wl_X13_750 wMv_475 rfl (.inl rfl) rfl (Nat.le_trans (Nat.le_of_ble_eq_true rfl) hL) (Nat.le_of_ble_eq_true rfl) (Nat.le_of_ble_eq_true rfl) h (fun w7 hle h => ?_) (fun _ _ _ h => kzx_no rfl h)
    have h := h hle
    exact kz_weak [(0, .ref (w_adr E.2.1 12 0)), (1, .int x1), (2, .int x2), (3, .int v2), (4, .int (w_i w1 12 0 62)), (5, .int (w_i w1 12 0 56))] ⟨rfl, ⟨rfl, ⟨rfl, ⟨rfl, ⟨rfl, ⟨rfl, trivial⟩⟩⟩⟩⟩⟩ rfl (zt_X13_nameUnit_p121 hL  h)
def zb_X13_nameUnit_p35 (E : zE) (L : Nat) (Q : kx_Rs → wS → Prop) (x1 : Int32) (x2 : Int32) (y0 : Int32) (y1 : Int32) (w : wS) : Prop := (if x2 = 0 then zb_X13_nameUnit_p49 E L Q x1 x2 (-1) y0 y1 w else (kx_inb x1 (w_n w 12 0 33) = true ∧ zb_X13_nameUnit_p49 E L Q x1 x2 (w_a w 12 0 33 (x1).toNatClampNeg) y0 y1 w))
theorem zt_X13_nameUnit_p35 {E : zE} {L : Nat} {Q : kx_Rs → wS → Prop} {x1 : Int32} {x2 : Int32} {y0 : Int32} {y1 : Int32} {w : wS} (hL : 28 ≤ L) (h : zb_X13_nameUnit_p35 E L Q x1 x2 y0 y1 w) : kzE E L kt_M486 35 [(0, .ref (w_adr E.2.1 12 0)), (1, .int x1), (2, .int x2)] [.int y0, .int y1, .ref (w_adr E.2.1 12 0)] w Q := by
  unfold zb_X13_nameUnit_p35 at h
  refine kz_iload_n (M := kt_M486) kX13_nameUnit_c2.2.2.2.2.1 rfl ?_
  refine kz_if_eq (M := kt_M486) kX13_nameUnit_c2.2.2.2.2.2.1 (t := 48) rfl h (fun h => ?_) (fun h => ?_)
  · skip
    refine kz_ic (M := kt_M486) (-1) kX13_nameUnit_c3.2.2.2.1 rfl ?_
    exact kz_weak [(0, .ref (w_adr E.2.1 12 0)), (1, .int x1), (2, .int x2)] ⟨rfl, ⟨rfl, ⟨rfl, trivial⟩⟩⟩ rfl (zt_X13_nameUnit_p49 hL  h)
  · skip
    refine kz_aload_n (M := kt_M486) kX13_nameUnit_c2.2.2.2.2.2.2.1 rfl ?_
    refine kz_gfc (M := kt_M486) (x := 4105) (c := 12) (o := 0) kX13_nameUnit_c2.2.2.2.2.2.2.2.1 wf_X13_208 (.inl rfl) ?_
    refine kz_iload_n (M := kt_M486) kX13_nameUnit_c3.1 rfl ?_
    refine kz_iald (M := kt_M486) (c := 12) (o := 0) (k := 33) (a := (E.2.1 4105)) kX13_nameUnit_c3.2.1 ow_12_0_33 oa_12_0_33 ot_0 h (fun h => ?_)
    refine kz_goto (M := kt_M486) kX13_nameUnit_c3.2.2.1 (t := 49) rfl ?_
    exact kz_weak [(0, .ref (w_adr E.2.1 12 0)), (1, .int x1), (2, .int x2)] ⟨rfl, ⟨rfl, ⟨rfl, trivial⟩⟩⟩ rfl (zt_X13_nameUnit_p49 hL  h)
def zb_X13_nameUnit_p16 (E : zE) (L : Nat) (Q : kx_Rs → wS → Prop) (x1 : Int32) (y0 : Int32) (w : wS) : Prop := (kx_inb x1 (w_n w 12 0 30) = true ∧ (if y0 = 0 then zb_X13_nameUnit_p35 E L Q x1 y0 7 (w_a w 12 0 30 (x1).toNatClampNeg) w else zb_X13_nameUnit_p35 E L Q x1 y0 8 (w_a w 12 0 30 (x1).toNatClampNeg) w))
theorem zt_X13_nameUnit_p16 {E : zE} {L : Nat} {Q : kx_Rs → wS → Prop} {x1 : Int32} {y0 : Int32} {w : wS} (hL : 28 ≤ L) (h : zb_X13_nameUnit_p16 E L Q x1 y0 w) : kzE E L kt_M486 16 [(0, .ref (w_adr E.2.1 12 0)), (1, .int x1)] [.int y0] w Q := by
  unfold zb_X13_nameUnit_p16 at h
  refine kz_sti_n (M := kt_M486) [(0, .ref (w_adr E.2.1 12 0)), (1, .int x1)] kX13_nameUnit_c1.2.1 (Nat.le_of_ble_eq_true rfl) ⟨⟨rfl, rfl, .inl rfl⟩, ⟨⟨rfl, rfl, .inr rfl⟩, trivial⟩⟩ rfl ?_
  refine kz_aload_n (M := kt_M486) kX13_nameUnit_c1.2.2.1 rfl ?_
  refine kz_aload_n (M := kt_M486) kX13_nameUnit_c1.2.2.2.1 rfl ?_
  refine kz_gfc (M := kt_M486) (x := 4102) (c := 12) (o := 0) kX13_nameUnit_c1.2.2.2.2.1 wf_X13_199 (.inl rfl) ?_
  refine kz_iload_n (M := kt_M486) kX13_nameUnit_c1.2.2.2.2.2.1 rfl ?_
  refine kz_iald (M := kt_M486) (c := 12) (o := 0) (k := 30) (a := (E.2.1 4102)) kX13_nameUnit_c1.2.2.2.2.2.2.1 ow_12_0_30 oa_12_0_30 ot_0 h (fun h => ?_)
  refine kz_iload_n (M := kt_M486) kX13_nameUnit_c1.2.2.2.2.2.2.2.1 rfl ?_
  refine kz_if_eq (M := kt_M486) kX13_nameUnit_c2.1 (t := 33) rfl h (fun h => ?_) (fun h => ?_)
  · skip
    refine kz_bi (M := kt_M486) 7 kX13_nameUnit_c2.2.2.2.1 rfl ?_
    exact kz_weak [(0, .ref (w_adr E.2.1 12 0)), (1, .int x1), (2, .int y0)] ⟨rfl, ⟨rfl, ⟨rfl, trivial⟩⟩⟩ rfl (zt_X13_nameUnit_p35 hL  h)
  · skip
    refine kz_bi (M := kt_M486) 8 kX13_nameUnit_c2.2.1 rfl ?_
    refine kz_goto (M := kt_M486) kX13_nameUnit_c2.2.2.1 (t := 35) rfl ?_
    exact kz_weak [(0, .ref (w_adr E.2.1 12 0)), (1, .int x1), (2, .int y0)] ⟨rfl, ⟨rfl, ⟨rfl, trivial⟩⟩⟩ rfl (zt_X13_nameUnit_p35 hL  h)
def zb_X13_nameUnit_p0 (E : zE) (L : Nat) (Q : kx_Rs → wS → Prop) (x1 : Int32) (w : wS) : Prop := (kx_inb x1 (w_n w 12 0 26) = true ∧ (if ¬ w_a w 12 0 26 (x1).toNatClampNeg = 38 then zb_X13_nameUnit_p16 E L Q x1 0 w else zb_X13_nameUnit_p16 E L Q x1 1 w))
theorem zt_X13_nameUnit_p0 {E : zE} {L : Nat} {Q : kx_Rs → wS → Prop} {x1 : Int32} {w : wS} (hL : 28 ≤ L) (h : zb_X13_nameUnit_p0 E L Q x1 w) : kzE E L kt_M486 0 [(0, .ref (w_adr E.2.1 12 0)), (1, .int x1)] [] w Q := by
  unfold zb_X13_nameUnit_p0 at h
  refine kz_aload_n (M := kt_M486) kX13_nameUnit_c0.1 rfl ?_
  refine kz_gfc (M := kt_M486) (x := 4098) (c := 12) (o := 0) kX13_nameUnit_c0.2.1 wf_X13_187 (.inl rfl) ?_
  refine kz_iload_n (M := kt_M486) kX13_nameUnit_c0.2.2.1 rfl ?_
  refine kz_iald (M := kt_M486) (c := 12) (o := 0) (k := 26) (a := (E.2.1 4098)) kX13_nameUnit_c0.2.2.2.1 ow_12_0_26 oa_12_0_26 ot_0 h (fun h => ?_)
  refine kz_bi (M := kt_M486) 38 kX13_nameUnit_c0.2.2.2.2.1 rfl ?_
  refine kz_icmp_ne (M := kt_M486) kX13_nameUnit_c0.2.2.2.2.2.1 (t := 15) rfl h (fun h => ?_) (fun h => ?_)
  · skip
    refine kz_ic (M := kt_M486) 0 kX13_nameUnit_c1.1 rfl ?_
    exact kz_weak [(0, .ref (w_adr E.2.1 12 0)), (1, .int x1)] ⟨rfl, ⟨rfl, trivial⟩⟩ rfl (zt_X13_nameUnit_p16 hL  h)
  · skip
    refine kz_ic (M := kt_M486) 1 kX13_nameUnit_c0.2.2.2.2.2.2.1 rfl ?_
    refine kz_goto (M := kt_M486) kX13_nameUnit_c0.2.2.2.2.2.2.2.1 (t := 16) rfl ?_
    exact kz_weak [(0, .ref (w_adr E.2.1 12 0)), (1, .int x1)] ⟨rfl, ⟨rfl, trivial⟩⟩ rfl (zt_X13_nameUnit_p16 hL  h)
def zb_X13_newUnit_p0 (E : zE) (L : Nat) (Q : kx_Rs → wS → Prop) (w : wS) : Prop := (kx_inb (w_i w 12 0 59) (w_n w 12 0 60) = true ∧ (kx_inb (w_i w 12 0 59) (w_n w 12 0 61) = true ∧ Q (.inl (some (.int (((w_i w 12 0 59) + 1) - 1)))) (ws_i (ws_a (ws_a w 12 0 60 (w_i w 12 0 59).toNatClampNeg (w_i w 12 0 62)) 12 0 61 (w_i w 12 0 59).toNatClampNeg 0) 12 0 59 ((w_i w 12 0 59) + 1))))
theorem zt_X13_newUnit_p0 {E : zE} {L : Nat} {Q : kx_Rs → wS → Prop} {w : wS} (hL : 19 ≤ L) (h : zb_X13_newUnit_p0 E L Q  w) : kzE E L kt_M492 0 [(0, .ref (w_adr E.2.1 12 0))] [] w Q := by
  unfold zb_X13_newUnit_p0 at h
  refine kz_aload_n (M := kt_M492) kX13_newUnit_c0.1 rfl ?_
  refine kz_gfc (M := kt_M492) (x := 4132) (c := 12) (o := 0) kX13_newUnit_c0.2.1 wf_X13_257 (.inl rfl) ?_
  refine kz_aload_n (M := kt_M492) kX13_newUnit_c0.2.2.1 rfl ?_
  refine kz_gfi (M := kt_M492) (c := 12) (o := 0) kX13_newUnit_c0.2.2.2.1 wf_X13_737 (.inl rfl) ?_
  refine kz_aload_n (M := kt_M492) kX13_newUnit_c0.2.2.2.2.1 rfl ?_
  refine kz_gfi (M := kt_M492) (c := 12) (o := 0) kX13_newUnit_c0.2.2.2.2.2.1 wf_X13_725 (.inl rfl) ?_
  refine kz_iast (M := kt_M492) (c := 12) (o := 0) (k := 60) (a := (E.2.1 4132)) kX13_newUnit_c0.2.2.2.2.2.2.1 ow_12_0_60 oa_12_0_60 ot_0 h (fun h => ?_)
  refine kz_aload_n (M := kt_M492) kX13_newUnit_c0.2.2.2.2.2.2.2.1 rfl ?_
  refine kz_gfc (M := kt_M492) (x := 4133) (c := 12) (o := 0) kX13_newUnit_c1.1 wf_X13_260 (.inl rfl) ?_
  refine kz_aload_n (M := kt_M492) kX13_newUnit_c1.2.1 rfl ?_
  refine kz_gfiR (M := kt_M492) (c := 12) (o := 0) (w_i w 12 0 59) kX13_newUnit_c1.2.2.1 wf_X13_737 (.inl rfl) rd_i_a ?_
  refine kz_ic (M := kt_M492) 0 kX13_newUnit_c1.2.2.2.1 rfl ?_
  refine kz_iastR (M := kt_M492) (n := w_n w 12 0 61) (c := 12) (o := 0) (k := 61) (a := (E.2.1 4133)) kX13_newUnit_c1.2.2.2.2.1 ow_12_0_61 oa_12_0_61 ot_0 rd_n_a h (fun h => ?_)
  refine kz_aload_n (M := kt_M492) kX13_newUnit_c1.2.2.2.2.2.1 rfl ?_
  refine kz_dup (M := kt_M492) kX13_newUnit_c1.2.2.2.2.2.2.1 rfl ?_
  refine kz_gfiR (M := kt_M492) (c := 12) (o := 0) (w_i w 12 0 59) kX13_newUnit_c1.2.2.2.2.2.2.2.1 wf_X13_737 (.inl rfl) (rd_i_a.trans rd_i_a) ?_
  refine kz_ic (M := kt_M492) 1 kX13_newUnit_c2.1 rfl ?_
  refine kz_iadd (M := kt_M492) kX13_newUnit_c2.2.1 ?_
  refine kz_pfi (M := kt_M492) (c := 12) (o := 0) kX13_newUnit_c2.2.2.1 wq_X13_737 (.inl rfl) ?_
  refine kz_aload_n (M := kt_M492) kX13_newUnit_c2.2.2.2.1 rfl ?_
  refine kz_gfiR (M := kt_M492) (c := 12) (o := 0) ((w_i w 12 0 59) + 1) kX13_newUnit_c2.2.2.2.2.1 wf_X13_737 (.inl rfl) rd_i_e ?_
  refine kz_ic (M := kt_M492) 1 kX13_newUnit_c2.2.2.2.2.2.1 rfl ?_
  refine kz_isub (M := kt_M492) kX13_newUnit_c2.2.2.2.2.2.2.1 ?_
  exact kz_iret (M := kt_M492) kX13_newUnit_c2.2.2.2.2.2.2.2.1 rfl rfl h
def zL_X13_nameFormals_p248 (E : zE) (L : Nat) (Q : kx_Rs → wS → Prop) (x4 : Int32) (w : wS) : Prop := kzE E L kt_M478 248 [(0, .ref (w_adr E.2.1 12 0)), (4, .int x4)] [] w Q
def zL_X13_nameFormals_p79 (E : zE) (L : Nat) (Q : kx_Rs → wS → Prop) (x1 : Int32) (x2 : Int32) (x3 : Int32) (x4 : Int32) (x5 : Int32) (x6 : Int32) (x7 : Int32) (x8 : Int32) (w : wS) : Prop := kzE E L kt_M478 79 [(0, .ref (w_adr E.2.1 12 0)), (1, .int x1), (2, .int x2), (3, .int x3), (4, .int x4), (5, .int x5), (6, .int x6), (7, .int x7), (8, .int x8)] [] w Q
def zL_X13_nameFormals_p13 (E : zE) (L : Nat) (Q : kx_Rs → wS → Prop) (x1 : Int32) (x2 : Int32) (x3 : Int32) (x4 : Int32) (w : wS) : Prop := kzE E L kt_M478 13 [(0, .ref (w_adr E.2.1 12 0)), (1, .int x1), (2, .int x2), (3, .int x3), (4, .int x4)] [] w Q
def zb_X13_nameFormals_p248 (E : zE) (L : Nat) (Q : kx_Rs → wS → Prop) (x4 : Int32) (w : wS) : Prop := (if x4 < 0 then Q (.inl none) w else (kx_inb x4 (w_n w 12 0 31) = true ∧ zw E (L - 21) kt_M455 [.ref (w_adr E.2.1 12 0), .int (w_a w 12 0 31 (x4).toNatClampNeg)] w (wk0 (fun w1 => wle w w1 → (kx_inb x4 (w_n w1 12 0 32) = true ∧ zL_X13_nameFormals_p248 E L Q (w_a w1 12 0 32 (x4).toNatClampNeg) w1)) (fun e w => Q (.inr e) w))))
theorem zt_X13_nameFormals_p248 {E : zE} {L : Nat} {Q : kx_Rs → wS → Prop} {x4 : Int32} {w : wS} (hL : 28 ≤ L) (h : zb_X13_nameFormals_p248 E L Q x4 w) : kzE E L kt_M478 248 [(0, .ref (w_adr E.2.1 12 0)), (4, .int x4)] [] w Q := by
  unfold zb_X13_nameFormals_p248 at h
  refine kz_iload (M := kt_M478) kX13_nameFormals_c16.2.2.2.2.2.2.1 rfl ?_
  refine kz_if_lt (M := kt_M478) kX13_nameFormals_c16.2.2.2.2.2.2.2.1 (t := 276) rfl h (fun h => ?_) (fun h => ?_)
  · skip
    exact kz_ret (M := kt_M478) kX13_nameFormals_c18.2.2.2.2.1 rfl h
  · skip
    refine kz_aload_n (M := kt_M478) kX13_nameFormals_c17.1 rfl ?_
    refine kz_aload_n (M := kt_M478) kX13_nameFormals_c17.2.1 rfl ?_
    refine kz_gfc (M := kt_M478) (x := 4103) (c := 12) (o := 0) kX13_nameFormals_c17.2.2.1 wf_X13_202 (.inl rfl) ?_
    refine kz_iload (M := kt_M478) kX13_nameFormals_c17.2.2.2.1 rfl ?_
    refine kz_iald (M := kt_M478) (c := 12) (o := 0) (k := 31) (a := (E.2.1 4103)) kX13_nameFormals_c17.2.2.2.2.1 ow_12_0_31 oa_12_0_31 ot_0 h (fun h => ?_)
    refine kz_cv0 (M := kt_M478) (c := 12) (o := 0) (As := [.int (w_a w 12 0 31 (x4).toNatClampNeg)]) (rest := []) kX13_nameFormals_c17.2.2.2.2.2.1 wl_X13_763 wMv_455 rfl (.inl rfl) rfl (Nat.le_trans (Nat.le_of_ble_eq_true rfl) hL) (Nat.le_of_ble_eq_true rfl) (Nat.le_of_ble_eq_true rfl) h (fun w1 hle h => ?_) (fun _ _ _ h => kzx_no rfl h)
    have h := h hle
    refine kz_aload_n (M := kt_M478) kX13_nameFormals_c17.2.2.2.2.2.2.1 rfl ?_
    refine kz_gfc (M := kt_M478) (x := 4104) (c := 12) (o := 0) kX13_nameFormals_c17.2.2.2.2.2.2.2.1 wf_X13_205 (.inl rfl) ?_
    refine kz_iload (M := kt_M478) kX13_nameFormals_c18.1 rfl ?_
    refine kz_iald (M := kt_M478) (c := 12) (o := 0) (k := 32) (a := (E.2.1 4104)) kX13_nameFormals_c18.2.1 ow_12_0_32 oa_12_0_32 ot_0 h (fun h => ?_)
    refine kz_sti (M := kt_M478) [(0, .ref (w_adr E.2.1 12 0))] kX13_nameFormals_c18.2.2.1 (Nat.le_of_ble_eq_true rfl) ⟨⟨rfl, rfl, .inl rfl⟩, trivial⟩ rfl ?_
    refine kz_goto (M := kt_M478) kX13_nameFormals_c18.2.2.2.1 (t := 248) rfl ?_
    exact kz_weak [(0, .ref (w_adr E.2.1 12 0)), (4, .int (w_a w1 12 0 32 (x4).toNatClampNeg))] ⟨rfl, ⟨rfl, trivial⟩⟩ rfl h
def zb_X13_nameFormals_p198 (E : zE) (L : Nat) (Q : kx_Rs → wS → Prop) (x1 : Int32) (x2 : Int32) (x3 : Int32) (x4 : Int32) (x7 : Int32) (x8 : Int32) (y0 : Int32) (y1 : Int32) (y3 : Int32) (w : wS) : Prop := (kx_inb x4 (w_n w 12 0 27) = true ∧ zw E (L - 28) kt_M550 [.ref (w_adr E.2.1 12 0), .int y1, .int y0, .int x7, .int x8, .int x4, .int (w_a w 12 0 27 (x4).toNatClampNeg)] w (wk1 (fun v2 w1 => wle w w1 → (kx_inb y3 (w_n w1 12 0 31) = true ∧ (kx_inb x4 (w_n w1 12 0 31) = true ∧ (kx_inb (w_a (ws_a w1 12 0 31 (y3).toNatClampNeg v2) 12 0 31 (x4).toNatClampNeg) (w_n w1 12 0 53) = true ∧ (kx_inb x4 (w_n w1 12 0 32) = true ∧ zL_X13_nameFormals_p13 E L Q x1 x2 x3 (w_a w1 12 0 32 (x4).toNatClampNeg) (ws_a (ws_a w1 12 0 31 (y3).toNatClampNeg v2) 12 0 53 (w_a (ws_a w1 12 0 31 (y3).toNatClampNeg v2) 12 0 31 (x4).toNatClampNeg).toNatClampNeg (vp_nar .boolean 1))))))) (fun e w => Q (.inr e) w)))
theorem zt_X13_nameFormals_p198 {E : zE} {L : Nat} {Q : kx_Rs → wS → Prop} {x1 : Int32} {x2 : Int32} {x3 : Int32} {x4 : Int32} {x7 : Int32} {x8 : Int32} {y0 : Int32} {y1 : Int32} {y3 : Int32} {w : wS} (hL : 28 ≤ L) (h : zb_X13_nameFormals_p198 E L Q x1 x2 x3 x4 x7 x8 y0 y1 y3 w) : kzE E L kt_M478 198 [(0, .ref (w_adr E.2.1 12 0)), (1, .int x1), (2, .int x2), (3, .int x3), (4, .int x4), (7, .int x7), (8, .int x8)] [.int y0, .int y1, .ref (w_adr E.2.1 12 0), .int y3, .ref (E.2.1 4103)] w Q := by
  unfold zb_X13_nameFormals_p198 at h
  refine kz_iload (M := kt_M478) kX13_nameFormals_c13.2.2.1 rfl ?_
  refine kz_iload (M := kt_M478) kX13_nameFormals_c13.2.2.2.1 rfl ?_
  refine kz_iload (M := kt_M478) kX13_nameFormals_c13.2.2.2.2.1 rfl ?_
  refine kz_aload_n (M := kt_M478) kX13_nameFormals_c13.2.2.2.2.2.1 rfl ?_
  refine kz_gfc (M := kt_M478) (x := 4099) (c := 12) (o := 0) kX13_nameFormals_c13.2.2.2.2.2.2.1 wf_X13_190 (.inl rfl) ?_
  refine kz_iload (M := kt_M478) kX13_nameFormals_c13.2.2.2.2.2.2.2.1 rfl ?_
  refine kz_iald (M := kt_M478) (c := 12) (o := 0) (k := 27) (a := (E.2.1 4099)) kX13_nameFormals_c14.1 ow_12_0_27 oa_12_0_27 ot_0 h (fun h => ?_)
  refine kz_cv1 (M := kt_M478) (c := 12) (o := 0) (As := [.int y1, .int y0, .int x7, .int x8, .int x4, .int (w_a w 12 0 27 (x4).toNatClampNeg)]) (rest := [.int y3, .ref (E.2.1 4103)]) kX13_nameFormals_c14.2.1 wl_X13_759 wMv_550 rfl (.inl rfl) rfl (Nat.le_trans (Nat.le_of_ble_eq_true rfl) hL) (Nat.le_of_ble_eq_true rfl) (Nat.le_of_ble_eq_true rfl) h (fun v2 w1 hle h => ?_) (fun _ _ _ h => kzx_no rfl h)
  have h := h hle
  refine kz_iast (M := kt_M478) (c := 12) (o := 0) (k := 31) (a := (E.2.1 4103)) kX13_nameFormals_c14.2.2.1 ow_12_0_31 oa_12_0_31 ot_0 h (fun h => ?_)
  refine kz_aload_n (M := kt_M478) kX13_nameFormals_c14.2.2.2.1 rfl ?_
  refine kz_gfc (M := kt_M478) (x := 4125) (c := 12) (o := 0) kX13_nameFormals_c14.2.2.2.2.1 wf_X13_244 (.inl rfl) ?_
  refine kz_aload_n (M := kt_M478) kX13_nameFormals_c14.2.2.2.2.2.1 rfl ?_
  refine kz_gfc (M := kt_M478) (x := 4103) (c := 12) (o := 0) kX13_nameFormals_c14.2.2.2.2.2.2.1 wf_X13_202 (.inl rfl) ?_
  refine kz_iload (M := kt_M478) kX13_nameFormals_c14.2.2.2.2.2.2.2.1 rfl ?_
  refine kz_ialdR (M := kt_M478) (n := w_n w1 12 0 31) (c := 12) (o := 0) (k := 31) (a := (E.2.1 4103)) (w_a (ws_a w1 12 0 31 (y3).toNatClampNeg v2) 12 0 31 (x4).toNatClampNeg) kX13_nameFormals_c15.1 ow_12_0_31 oa_12_0_31 ot_0 rd_n_a rfl h (fun h => ?_)
  refine kz_ic (M := kt_M478) 1 kX13_nameFormals_c15.2.1 rfl ?_
  refine kz_zastR (M := kt_M478) (n := w_n w1 12 0 53) (c := 12) (o := 0) (k := 53) (a := (E.2.1 4125)) kX13_nameFormals_c15.2.2.1 ow_12_0_53 oa_12_0_53 ot_2 rd_n_a h (fun h => ?_)
  refine kz_aload_n (M := kt_M478) kX13_nameFormals_c15.2.2.2.1 rfl ?_
  refine kz_gfc (M := kt_M478) (x := 4104) (c := 12) (o := 0) kX13_nameFormals_c15.2.2.2.2.1 wf_X13_205 (.inl rfl) ?_
  refine kz_iload (M := kt_M478) kX13_nameFormals_c15.2.2.2.2.2.1 rfl ?_
  refine kz_ialdR (M := kt_M478) (n := w_n w1 12 0 32) (c := 12) (o := 0) (k := 32) (a := (E.2.1 4104)) (w_a w1 12 0 32 (x4).toNatClampNeg) kX13_nameFormals_c15.2.2.2.2.2.2.1 ow_12_0_32 oa_12_0_32 ot_0 (rd_n_a.trans rd_n_a) ((rd_a_a rfl).trans (rd_a_a rfl)) h (fun h => ?_)
  refine kz_sti (M := kt_M478) [(0, .ref (w_adr E.2.1 12 0)), (1, .int x1), (2, .int x2), (3, .int x3)] kX13_nameFormals_c15.2.2.2.2.2.2.2.1 (Nat.le_of_ble_eq_true rfl) ⟨⟨rfl, rfl, .inl rfl⟩, ⟨⟨rfl, rfl, .inl rfl⟩, ⟨⟨rfl, rfl, .inl rfl⟩, ⟨⟨rfl, rfl, .inr rfl⟩, trivial⟩⟩⟩⟩ rfl ?_
  refine kz_goto (M := kt_M478) kX13_nameFormals_c16.1 (t := 13) rfl ?_
  exact kz_weak [(0, .ref (w_adr E.2.1 12 0)), (1, .int x1), (2, .int x2), (3, .int x3), (4, .int (w_a w1 12 0 32 (x4).toNatClampNeg))] ⟨rfl, ⟨rfl, ⟨rfl, ⟨rfl, ⟨rfl, trivial⟩⟩⟩⟩⟩ rfl h
def zb_X13_nameFormals_p163 (E : zE) (L : Nat) (Q : kx_Rs → wS → Prop) (x1 : Int32) (x2 : Int32) (x3 : Int32) (x4 : Int32) (x5 : Int32) (x6 : Int32) (x7 : Int32) (y0 : Int32) (w : wS) : Prop := (kx_inb x4 (w_n w 12 0 30) = true ∧ (if x5 = 0 then (if x6 = 0 then zb_X13_nameFormals_p198 E L Q x1 x2 x3 x4 x7 y0 1 (w_a w 12 0 30 (x4).toNatClampNeg) x4 w else zb_X13_nameFormals_p198 E L Q x1 x2 x3 x4 x7 y0 2 (w_a w 12 0 30 (x4).toNatClampNeg) x4 w) else zb_X13_nameFormals_p198 E L Q x1 x2 x3 x4 x7 y0 3 (w_a w 12 0 30 (x4).toNatClampNeg) x4 w))
theorem zt_X13_nameFormals_p163 {E : zE} {L : Nat} {Q : kx_Rs → wS → Prop} {x1 : Int32} {x2 : Int32} {x3 : Int32} {x4 : Int32} {x5 : Int32} {x6 : Int32} {x7 : Int32} {y0 : Int32} {w : wS} (hL : 28 ≤ L) (h : zb_X13_nameFormals_p163 E L Q x1 x2 x3 x4 x5 x6 x7 y0 w) : kzE E L kt_M478 163 [(0, .ref (w_adr E.2.1 12 0)), (1, .int x1), (2, .int x2), (3, .int x3), (4, .int x4), (5, .int x5), (6, .int x6), (7, .int x7)] [.int y0] w Q := by
  unfold zb_X13_nameFormals_p163 at h
  refine kz_sti (M := kt_M478) [(0, .ref (w_adr E.2.1 12 0)), (1, .int x1), (2, .int x2), (3, .int x3), (4, .int x4), (5, .int x5), (6, .int x6), (7, .int x7)] kX13_nameFormals_c11.1 (Nat.le_of_ble_eq_true rfl) ⟨⟨rfl, rfl, .inl rfl⟩, ⟨⟨rfl, rfl, .inl rfl⟩, ⟨⟨rfl, rfl, .inl rfl⟩, ⟨⟨rfl, rfl, .inl rfl⟩, ⟨⟨rfl, rfl, .inl rfl⟩, ⟨⟨rfl, rfl, .inl rfl⟩, ⟨⟨rfl, rfl, .inl rfl⟩, ⟨⟨rfl, rfl, .inr rfl⟩, trivial⟩⟩⟩⟩⟩⟩⟩⟩ rfl ?_
  refine kz_aload_n (M := kt_M478) kX13_nameFormals_c11.2.1 rfl ?_
  refine kz_gfc (M := kt_M478) (x := 4103) (c := 12) (o := 0) kX13_nameFormals_c11.2.2.1 wf_X13_202 (.inl rfl) ?_
  refine kz_iload (M := kt_M478) kX13_nameFormals_c11.2.2.2.1 rfl ?_
  refine kz_aload_n (M := kt_M478) kX13_nameFormals_c11.2.2.2.2.1 rfl ?_
  refine kz_aload_n (M := kt_M478) kX13_nameFormals_c11.2.2.2.2.2.1 rfl ?_
  refine kz_gfc (M := kt_M478) (x := 4102) (c := 12) (o := 0) kX13_nameFormals_c11.2.2.2.2.2.2.1 wf_X13_199 (.inl rfl) ?_
  refine kz_iload (M := kt_M478) kX13_nameFormals_c11.2.2.2.2.2.2.2.1 rfl ?_
  refine kz_iald (M := kt_M478) (c := 12) (o := 0) (k := 30) (a := (E.2.1 4102)) kX13_nameFormals_c12.1 ow_12_0_30 oa_12_0_30 ot_0 h (fun h => ?_)
  refine kz_iload (M := kt_M478) kX13_nameFormals_c12.2.1 rfl ?_
  refine kz_if_eq (M := kt_M478) kX13_nameFormals_c12.2.2.1 (t := 188) rfl h (fun h => ?_) (fun h => ?_)
  · skip
    refine kz_iload (M := kt_M478) kX13_nameFormals_c12.2.2.2.2.2.1 rfl ?_
    refine kz_if_eq (M := kt_M478) kX13_nameFormals_c12.2.2.2.2.2.2.1 (t := 197) rfl h (fun h => ?_) (fun h => ?_)
    · skip
      refine kz_ic (M := kt_M478) 1 kX13_nameFormals_c13.2.1 rfl ?_
      exact kz_weak [(0, .ref (w_adr E.2.1 12 0)), (1, .int x1), (2, .int x2), (3, .int x3), (4, .int x4), (7, .int x7), (8, .int y0)] ⟨rfl, ⟨rfl, ⟨rfl, ⟨rfl, ⟨rfl, ⟨rfl, ⟨rfl, trivial⟩⟩⟩⟩⟩⟩⟩ rfl (zt_X13_nameFormals_p198 hL  h)
    · skip
      refine kz_ic (M := kt_M478) 2 kX13_nameFormals_c12.2.2.2.2.2.2.2.1 rfl ?_
      refine kz_goto (M := kt_M478) kX13_nameFormals_c13.1 (t := 198) rfl ?_
      exact kz_weak [(0, .ref (w_adr E.2.1 12 0)), (1, .int x1), (2, .int x2), (3, .int x3), (4, .int x4), (7, .int x7), (8, .int y0)] ⟨rfl, ⟨rfl, ⟨rfl, ⟨rfl, ⟨rfl, ⟨rfl, ⟨rfl, trivial⟩⟩⟩⟩⟩⟩⟩ rfl (zt_X13_nameFormals_p198 hL  h)
  · skip
    refine kz_ic (M := kt_M478) 3 kX13_nameFormals_c12.2.2.2.1 rfl ?_
    refine kz_goto (M := kt_M478) kX13_nameFormals_c12.2.2.2.2.1 (t := 198) rfl ?_
    exact kz_weak [(0, .ref (w_adr E.2.1 12 0)), (1, .int x1), (2, .int x2), (3, .int x3), (4, .int x4), (7, .int x7), (8, .int y0)] ⟨rfl, ⟨rfl, ⟨rfl, ⟨rfl, ⟨rfl, ⟨rfl, ⟨rfl, trivial⟩⟩⟩⟩⟩⟩⟩ rfl (zt_X13_nameFormals_p198 hL  h)
def zb_X13_nameFormals_p145 (E : zE) (L : Nat) (Q : kx_Rs → wS → Prop) (x1 : Int32) (x2 : Int32) (x3 : Int32) (x4 : Int32) (x5 : Int32) (x6 : Int32) (x7 : Int32) (w : wS) : Prop := (kx_inb x4 (w_n w 12 0 34) = true ∧ (if ((w_a w 12 0 34 (x4).toNatClampNeg) &&& 1) = 0 then zb_X13_nameFormals_p163 E L Q x1 x2 x3 x4 x5 x6 x7 (-1) w else zb_X13_nameFormals_p163 E L Q x1 x2 x3 x4 x5 x6 x7 (-2) w))
theorem zt_X13_nameFormals_p145 {E : zE} {L : Nat} {Q : kx_Rs → wS → Prop} {x1 : Int32} {x2 : Int32} {x3 : Int32} {x4 : Int32} {x5 : Int32} {x6 : Int32} {x7 : Int32} {w : wS} (hL : 28 ≤ L) (h : zb_X13_nameFormals_p145 E L Q x1 x2 x3 x4 x5 x6 x7 w) : kzE E L kt_M478 145 [(0, .ref (w_adr E.2.1 12 0)), (1, .int x1), (2, .int x2), (3, .int x3), (4, .int x4), (5, .int x5), (6, .int x6), (7, .int x7)] [] w Q := by
  unfold zb_X13_nameFormals_p145 at h
  refine kz_aload_n (M := kt_M478) kX13_nameFormals_c9.2.2.2.2.2.2.1 rfl ?_
  refine kz_gfc (M := kt_M478) (x := 4106) (c := 12) (o := 0) kX13_nameFormals_c9.2.2.2.2.2.2.2.1 wf_X13_211 (.inl rfl) ?_
  refine kz_iload (M := kt_M478) kX13_nameFormals_c10.1 rfl ?_
  refine kz_iald (M := kt_M478) (c := 12) (o := 0) (k := 34) (a := (E.2.1 4106)) kX13_nameFormals_c10.2.1 ow_12_0_34 oa_12_0_34 ot_0 h (fun h => ?_)
  refine kz_ic (M := kt_M478) 1 kX13_nameFormals_c10.2.2.1 rfl ?_
  refine kz_iand (M := kt_M478) kX13_nameFormals_c10.2.2.2.1 ?_
  refine kz_if_eq (M := kt_M478) kX13_nameFormals_c10.2.2.2.2.1 (t := 162) rfl h (fun h => ?_) (fun h => ?_)
  · skip
    refine kz_ic (M := kt_M478) (-1) kX13_nameFormals_c10.2.2.2.2.2.2.2.1 rfl ?_
    exact kz_weak [(0, .ref (w_adr E.2.1 12 0)), (1, .int x1), (2, .int x2), (3, .int x3), (4, .int x4), (5, .int x5), (6, .int x6), (7, .int x7)] ⟨rfl, ⟨rfl, ⟨rfl, ⟨rfl, ⟨rfl, ⟨rfl, ⟨rfl, ⟨rfl, trivial⟩⟩⟩⟩⟩⟩⟩⟩ rfl (zt_X13_nameFormals_p163 hL  h)
  · skip
    refine kz_bi (M := kt_M478) (-2) kX13_nameFormals_c10.2.2.2.2.2.1 rfl ?_
    refine kz_goto (M := kt_M478) kX13_nameFormals_c10.2.2.2.2.2.2.1 (t := 163) rfl ?_
    exact kz_weak [(0, .ref (w_adr E.2.1 12 0)), (1, .int x1), (2, .int x2), (3, .int x3), (4, .int x4), (5, .int x5), (6, .int x6), (7, .int x7)] ⟨rfl, ⟨rfl, ⟨rfl, ⟨rfl, ⟨rfl, ⟨rfl, ⟨rfl, ⟨rfl, trivial⟩⟩⟩⟩⟩⟩⟩⟩ rfl (zt_X13_nameFormals_p163 hL  h)
def zb_X13_nameFormals_p117 (E : zE) (L : Nat) (Q : kx_Rs → wS → Prop) (x1 : Int32) (x2 : Int32) (x3 : Int32) (x4 : Int32) (x5 : Int32) (x6 : Int32) (x7 : Int32) (x8 : Int32) (w : wS) : Prop := zL_X13_nameFormals_p79 E L Q x1 x2 x3 x4 x5 x6 x7 (x8 + 1) w
theorem zt_X13_nameFormals_p117 {E : zE} {L : Nat} {Q : kx_Rs → wS → Prop} {x1 : Int32} {x2 : Int32} {x3 : Int32} {x4 : Int32} {x5 : Int32} {x6 : Int32} {x7 : Int32} {x8 : Int32} {w : wS} (hL : 28 ≤ L) (h : zb_X13_nameFormals_p117 E L Q x1 x2 x3 x4 x5 x6 x7 x8 w) : kzE E L kt_M478 117 [(0, .ref (w_adr E.2.1 12 0)), (1, .int x1), (2, .int x2), (3, .int x3), (4, .int x4), (5, .int x5), (6, .int x6), (7, .int x7), (8, .int x8)] [] w Q := by
  unfold zb_X13_nameFormals_p117 at h
  refine kz_inc (M := kt_M478) [(0, .ref (w_adr E.2.1 12 0)), (1, .int x1), (2, .int x2), (3, .int x3), (4, .int x4), (5, .int x5), (6, .int x6), (7, .int x7)] kX13_nameFormals_c8.2.1 rfl (Nat.le_of_ble_eq_true rfl) ⟨⟨rfl, rfl, .inl rfl⟩, ⟨⟨rfl, rfl, .inl rfl⟩, ⟨⟨rfl, rfl, .inl rfl⟩, ⟨⟨rfl, rfl, .inl rfl⟩, ⟨⟨rfl, rfl, .inl rfl⟩, ⟨⟨rfl, rfl, .inl rfl⟩, ⟨⟨rfl, rfl, .inl rfl⟩, ⟨⟨rfl, rfl, .inr rfl⟩, trivial⟩⟩⟩⟩⟩⟩⟩⟩ rfl ?_
  refine kz_goto (M := kt_M478) kX13_nameFormals_c8.2.2.1 (t := 79) rfl ?_
  exact kz_weak [(0, .ref (w_adr E.2.1 12 0)), (1, .int x1), (2, .int x2), (3, .int x3), (4, .int x4), (5, .int x5), (6, .int x6), (7, .int x7), (8, .int (x8 + 1))] ⟨rfl, ⟨rfl, ⟨rfl, ⟨rfl, ⟨rfl, ⟨rfl, ⟨rfl, ⟨rfl, ⟨rfl, trivial⟩⟩⟩⟩⟩⟩⟩⟩⟩ rfl h
def zb_X13_nameFormals_p79 (E : zE) (L : Nat) (Q : kx_Rs → wS → Prop) (x1 : Int32) (x2 : Int32) (x3 : Int32) (x4 : Int32) (x5 : Int32) (x6 : Int32) (x7 : Int32) (x8 : Int32) (w : wS) : Prop := (if w_i w 12 0 44 ≤ x8 then (if x2 = 0 then zb_X13_nameFormals_p145 E L Q x1 x2 x3 x4 x5 x6 x7 w else (if ¬ x6 = 0 then zb_X13_nameFormals_p145 E L Q x1 x2 x3 x4 x5 x6 x7 w else (kx_inb x4 (w_n w 12 0 27) = true ∧ zw E (L - 22) kt_M560 [.ref (w_adr E.2.1 12 0), .int 6, .int (w_a w 12 0 27 (x4).toNatClampNeg)] w (wk0 (fun w1 => wle w w1 → zb_X13_nameFormals_p145 E L Q x1 x2 x3 x4 x5 x6 x7 w1) (fun e w => Q (.inr e) w))))) else (kx_inb x8 (w_n w 12 0 45) = true ∧ (kx_inb x4 (w_n w 12 0 30) = true ∧ (if ¬ w_a w 12 0 45 (x8).toNatClampNeg = w_a w 12 0 30 (x4).toNatClampNeg then zb_X13_nameFormals_p117 E L Q x1 x2 x3 x4 x5 x6 x7 x8 w else (kx_inb x4 (w_n w 12 0 27) = true ∧ zw E (L - 22) kt_M560 [.ref (w_adr E.2.1 12 0), .int 4, .int (w_a w 12 0 27 (x4).toNatClampNeg)] w (wk0 (fun w3 => wle w w3 → zb_X13_nameFormals_p117 E L Q x1 x2 x3 x4 x5 x6 x7 x8 w3) (fun e w => Q (.inr e) w)))))))
theorem zt_X13_nameFormals_p79 {E : zE} {L : Nat} {Q : kx_Rs → wS → Prop} {x1 : Int32} {x2 : Int32} {x3 : Int32} {x4 : Int32} {x5 : Int32} {x6 : Int32} {x7 : Int32} {x8 : Int32} {w : wS} (hL : 28 ≤ L) (h : zb_X13_nameFormals_p79 E L Q x1 x2 x3 x4 x5 x6 x7 x8 w) : kzE E L kt_M478 79 [(0, .ref (w_adr E.2.1 12 0)), (1, .int x1), (2, .int x2), (3, .int x3), (4, .int x4), (5, .int x5), (6, .int x6), (7, .int x7), (8, .int x8)] [] w Q := by
  unfold zb_X13_nameFormals_p79 at h
  refine kz_iload (M := kt_M478) kX13_nameFormals_c5.2.2.2.2.2.1 rfl ?_
  refine kz_aload_n (M := kt_M478) kX13_nameFormals_c5.2.2.2.2.2.2.1 rfl ?_
  refine kz_gfi (M := kt_M478) (c := 12) (o := 0) kX13_nameFormals_c5.2.2.2.2.2.2.2.1 wf_X13_722 (.inl rfl) ?_
  refine kz_icmp_ge (M := kt_M478) kX13_nameFormals_c6.1 (t := 123) rfl h (fun h => ?_) (fun h => ?_)
  · skip
    refine kz_iload_n (M := kt_M478) kX13_nameFormals_c8.2.2.2.1 rfl ?_
    refine kz_if_eq (M := kt_M478) kX13_nameFormals_c8.2.2.2.2.1 (t := 145) rfl h (fun h => ?_) (fun h => ?_)
    · skip
      exact kz_weak [(0, .ref (w_adr E.2.1 12 0)), (1, .int x1), (2, .int x2), (3, .int x3), (4, .int x4), (5, .int x5), (6, .int x6), (7, .int x7)] ⟨rfl, ⟨rfl, ⟨rfl, ⟨rfl, ⟨rfl, ⟨rfl, ⟨rfl, ⟨rfl, trivial⟩⟩⟩⟩⟩⟩⟩⟩ rfl (zt_X13_nameFormals_p145 hL  h)
    · skip
      refine kz_iload (M := kt_M478) kX13_nameFormals_c8.2.2.2.2.2.1 rfl ?_
      refine kz_if_ne (M := kt_M478) kX13_nameFormals_c8.2.2.2.2.2.2.1 (t := 145) rfl h (fun h => ?_) (fun h => ?_)
      · skip
        exact kz_weak [(0, .ref (w_adr E.2.1 12 0)), (1, .int x1), (2, .int x2), (3, .int x3), (4, .int x4), (5, .int x5), (6, .int x6), (7, .int x7)] ⟨rfl, ⟨rfl, ⟨rfl, ⟨rfl, ⟨rfl, ⟨rfl, ⟨rfl, ⟨rfl, trivial⟩⟩⟩⟩⟩⟩⟩⟩ rfl (zt_X13_nameFormals_p145 hL  h)
      · skip
        refine kz_aload_n (M := kt_M478) kX13_nameFormals_c8.2.2.2.2.2.2.2.1 rfl ?_
        refine kz_bi (M := kt_M478) 6 kX13_nameFormals_c9.1 rfl ?_
        refine kz_aload_n (M := kt_M478) kX13_nameFormals_c9.2.1 rfl ?_
        refine kz_gfc (M := kt_M478) (x := 4099) (c := 12) (o := 0) kX13_nameFormals_c9.2.2.1 wf_X13_190 (.inl rfl) ?_
        refine kz_iload (M := kt_M478) kX13_nameFormals_c9.2.2.2.1 rfl ?_
        refine kz_iald (M := kt_M478) (c := 12) (o := 0) (k := 27) (a := (E.2.1 4099)) kX13_nameFormals_c9.2.2.2.2.1 ow_12_0_27 oa_12_0_27 ot_0 h (fun h => ?_)
        refine kz_cv0 (M := kt_M478) (c := 12) (o := 0) (As := [.int 6, .int (w_a w 12 0 27 (x4).toNatClampNeg)]) (rest := []) kX13_nameFormals_c9.2.2.2.2.2.1 wl_X13_734 wMv_560 rfl (.inl rfl) rfl (Nat.le_trans (Nat.le_of_ble_eq_true rfl) hL) (Nat.le_of_ble_eq_true rfl) (Nat.le_of_ble_eq_true rfl) h (fun w1 hle h => ?_) (fun _ _ _ h => kzx_no rfl h)
        have h := h hle
        exact kz_weak [(0, .ref (w_adr E.2.1 12 0)), (1, .int x1), (2, .int x2), (3, .int x3), (4, .int x4), (5, .int x5), (6, .int x6), (7, .int x7)] ⟨rfl, ⟨rfl, ⟨rfl, ⟨rfl, ⟨rfl, ⟨rfl, ⟨rfl, ⟨rfl, trivial⟩⟩⟩⟩⟩⟩⟩⟩ rfl (zt_X13_nameFormals_p145 hL  h)
  · skip
    refine kz_aload_n (M := kt_M478) kX13_nameFormals_c6.2.1 rfl ?_
    refine kz_gfc (M := kt_M478) (x := 4117) (c := 12) (o := 0) kX13_nameFormals_c6.2.2.1 wf_X13_220 (.inl rfl) ?_
    refine kz_iload (M := kt_M478) kX13_nameFormals_c6.2.2.2.1 rfl ?_
    refine kz_iald (M := kt_M478) (c := 12) (o := 0) (k := 45) (a := (E.2.1 4117)) kX13_nameFormals_c6.2.2.2.2.1 ow_12_0_45 oa_12_0_45 ot_0 h (fun h => ?_)
    refine kz_aload_n (M := kt_M478) kX13_nameFormals_c6.2.2.2.2.2.1 rfl ?_
    refine kz_gfc (M := kt_M478) (x := 4102) (c := 12) (o := 0) kX13_nameFormals_c6.2.2.2.2.2.2.1 wf_X13_199 (.inl rfl) ?_
    refine kz_iload (M := kt_M478) kX13_nameFormals_c6.2.2.2.2.2.2.2.1 rfl ?_
    refine kz_iald (M := kt_M478) (c := 12) (o := 0) (k := 30) (a := (E.2.1 4102)) kX13_nameFormals_c7.1 ow_12_0_30 oa_12_0_30 ot_0 h (fun h => ?_)
    refine kz_icmp_ne (M := kt_M478) kX13_nameFormals_c7.2.1 (t := 117) rfl h (fun h => ?_) (fun h => ?_)
    · skip
      exact kz_weak [(0, .ref (w_adr E.2.1 12 0)), (1, .int x1), (2, .int x2), (3, .int x3), (4, .int x4), (5, .int x5), (6, .int x6), (7, .int x7), (8, .int x8)] ⟨rfl, ⟨rfl, ⟨rfl, ⟨rfl, ⟨rfl, ⟨rfl, ⟨rfl, ⟨rfl, ⟨rfl, trivial⟩⟩⟩⟩⟩⟩⟩⟩⟩ rfl (zt_X13_nameFormals_p117 hL  h)
    · skip
      refine kz_aload_n (M := kt_M478) kX13_nameFormals_c7.2.2.1 rfl ?_
      refine kz_ic (M := kt_M478) 4 kX13_nameFormals_c7.2.2.2.1 rfl ?_
      refine kz_aload_n (M := kt_M478) kX13_nameFormals_c7.2.2.2.2.1 rfl ?_
      refine kz_gfc (M := kt_M478) (x := 4099) (c := 12) (o := 0) kX13_nameFormals_c7.2.2.2.2.2.1 wf_X13_190 (.inl rfl) ?_
      refine kz_iload (M := kt_M478) kX13_nameFormals_c7.2.2.2.2.2.2.1 rfl ?_
      refine kz_iald (M := kt_M478) (c := 12) (o := 0) (k := 27) (a := (E.2.1 4099)) kX13_nameFormals_c7.2.2.2.2.2.2.2.1 ow_12_0_27 oa_12_0_27 ot_0 h (fun h => ?_)
      refine kz_cv0 (M := kt_M478) (c := 12) (o := 0) (As := [.int 4, .int (w_a w 12 0 27 (x4).toNatClampNeg)]) (rest := []) kX13_nameFormals_c8.1 wl_X13_734 wMv_560 rfl (.inl rfl) rfl (Nat.le_trans (Nat.le_of_ble_eq_true rfl) hL) (Nat.le_of_ble_eq_true rfl) (Nat.le_of_ble_eq_true rfl) h (fun w3 hle h => ?_) (fun _ _ _ h => kzx_no rfl h)
      have h := h hle
      exact kz_weak [(0, .ref (w_adr E.2.1 12 0)), (1, .int x1), (2, .int x2), (3, .int x3), (4, .int x4), (5, .int x5), (6, .int x6), (7, .int x7), (8, .int x8)] ⟨rfl, ⟨rfl, ⟨rfl, ⟨rfl, ⟨rfl, ⟨rfl, ⟨rfl, ⟨rfl, ⟨rfl, trivial⟩⟩⟩⟩⟩⟩⟩⟩⟩ rfl (zt_X13_nameFormals_p117 hL  h)
def zb_X13_nameFormals_p54 (E : zE) (L : Nat) (Q : kx_Rs → wS → Prop) (x1 : Int32) (x2 : Int32) (x3 : Int32) (x4 : Int32) (x5 : Int32) (y0 : Int32) (w : wS) : Prop := (kx_inb x4 (w_n w 12 0 33) = true ∧ (kx_inb x4 (w_n w 12 0 27) = true ∧ zw E (L - 23) kt_M454 [.ref (w_adr E.2.1 12 0), .int (w_a w 12 0 33 (x4).toNatClampNeg), .int (w_a w 12 0 27 (x4).toNatClampNeg)] w (wk1 (fun v2 w1 => wle w w1 → zL_X13_nameFormals_p79 E L Q x1 x2 x3 x4 x5 y0 v2 x3 w1) (fun e w => Q (.inr e) w))))
theorem zt_X13_nameFormals_p54 {E : zE} {L : Nat} {Q : kx_Rs → wS → Prop} {x1 : Int32} {x2 : Int32} {x3 : Int32} {x4 : Int32} {x5 : Int32} {y0 : Int32} {w : wS} (hL : 28 ≤ L) (h : zb_X13_nameFormals_p54 E L Q x1 x2 x3 x4 x5 y0 w) : kzE E L kt_M478 54 [(0, .ref (w_adr E.2.1 12 0)), (1, .int x1), (2, .int x2), (3, .int x3), (4, .int x4), (5, .int x5)] [.int y0] w Q := by
  unfold zb_X13_nameFormals_p54 at h
  refine kz_sti (M := kt_M478) [(0, .ref (w_adr E.2.1 12 0)), (1, .int x1), (2, .int x2), (3, .int x3), (4, .int x4), (5, .int x5)] kX13_nameFormals_c3.2.2.2.2.2.2.2.1 (Nat.le_of_ble_eq_true rfl) ⟨⟨rfl, rfl, .inl rfl⟩, ⟨⟨rfl, rfl, .inl rfl⟩, ⟨⟨rfl, rfl, .inl rfl⟩, ⟨⟨rfl, rfl, .inl rfl⟩, ⟨⟨rfl, rfl, .inl rfl⟩, ⟨⟨rfl, rfl, .inr rfl⟩, trivial⟩⟩⟩⟩⟩⟩ rfl ?_
  refine kz_aload_n (M := kt_M478) kX13_nameFormals_c4.1 rfl ?_
  refine kz_aload_n (M := kt_M478) kX13_nameFormals_c4.2.1 rfl ?_
  refine kz_gfc (M := kt_M478) (x := 4105) (c := 12) (o := 0) kX13_nameFormals_c4.2.2.1 wf_X13_208 (.inl rfl) ?_
  refine kz_iload (M := kt_M478) kX13_nameFormals_c4.2.2.2.1 rfl ?_
  refine kz_iald (M := kt_M478) (c := 12) (o := 0) (k := 33) (a := (E.2.1 4105)) kX13_nameFormals_c4.2.2.2.2.1 ow_12_0_33 oa_12_0_33 ot_0 h (fun h => ?_)
  refine kz_aload_n (M := kt_M478) kX13_nameFormals_c4.2.2.2.2.2.1 rfl ?_
  refine kz_gfc (M := kt_M478) (x := 4099) (c := 12) (o := 0) kX13_nameFormals_c4.2.2.2.2.2.2.1 wf_X13_190 (.inl rfl) ?_
  refine kz_iload (M := kt_M478) kX13_nameFormals_c4.2.2.2.2.2.2.2.1 rfl ?_
  refine kz_iald (M := kt_M478) (c := 12) (o := 0) (k := 27) (a := (E.2.1 4099)) kX13_nameFormals_c5.1 ow_12_0_27 oa_12_0_27 ot_0 h (fun h => ?_)
  refine kz_cv1 (M := kt_M478) (c := 12) (o := 0) (As := [.int (w_a w 12 0 33 (x4).toNatClampNeg), .int (w_a w 12 0 27 (x4).toNatClampNeg)]) (rest := []) kX13_nameFormals_c5.2.1 wl_X13_790 wMv_454 rfl (.inl rfl) rfl (Nat.le_trans (Nat.le_of_ble_eq_true rfl) hL) (Nat.le_of_ble_eq_true rfl) (Nat.le_of_ble_eq_true rfl) h (fun v2 w1 hle h => ?_) (fun _ _ _ h => kzx_no rfl h)
  have h := h hle
  refine kz_sti (M := kt_M478) [(0, .ref (w_adr E.2.1 12 0)), (1, .int x1), (2, .int x2), (3, .int x3), (4, .int x4), (5, .int x5), (6, .int y0)] kX13_nameFormals_c5.2.2.1 (Nat.le_of_ble_eq_true rfl) ⟨⟨rfl, rfl, .inl rfl⟩, ⟨⟨rfl, rfl, .inl rfl⟩, ⟨⟨rfl, rfl, .inl rfl⟩, ⟨⟨rfl, rfl, .inl rfl⟩, ⟨⟨rfl, rfl, .inl rfl⟩, ⟨⟨rfl, rfl, .inl rfl⟩, ⟨⟨rfl, rfl, .inr rfl⟩, trivial⟩⟩⟩⟩⟩⟩⟩ rfl ?_
  refine kz_iload_n (M := kt_M478) kX13_nameFormals_c5.2.2.2.1 rfl ?_
  refine kz_sti (M := kt_M478) [(0, .ref (w_adr E.2.1 12 0)), (1, .int x1), (2, .int x2), (3, .int x3), (4, .int x4), (5, .int x5), (6, .int y0), (7, .int v2)] kX13_nameFormals_c5.2.2.2.2.1 (Nat.le_of_ble_eq_true rfl) ⟨⟨rfl, rfl, .inl rfl⟩, ⟨⟨rfl, rfl, .inl rfl⟩, ⟨⟨rfl, rfl, .inl rfl⟩, ⟨⟨rfl, rfl, .inl rfl⟩, ⟨⟨rfl, rfl, .inl rfl⟩, ⟨⟨rfl, rfl, .inl rfl⟩, ⟨⟨rfl, rfl, .inl rfl⟩, ⟨⟨rfl, rfl, .inr rfl⟩, trivial⟩⟩⟩⟩⟩⟩⟩⟩ rfl ?_
  exact kz_weak [(0, .ref (w_adr E.2.1 12 0)), (1, .int x1), (2, .int x2), (3, .int x3), (4, .int x4), (5, .int x5), (6, .int y0), (7, .int v2), (8, .int x3)] ⟨rfl, ⟨rfl, ⟨rfl, ⟨rfl, ⟨rfl, ⟨rfl, ⟨rfl, ⟨rfl, ⟨rfl, trivial⟩⟩⟩⟩⟩⟩⟩⟩⟩ rfl h
def zb_X13_nameFormals_p35 (E : zE) (L : Nat) (Q : kx_Rs → wS → Prop) (x1 : Int32) (x2 : Int32) (x3 : Int32) (x4 : Int32) (y0 : Int32) (w : wS) : Prop := (kx_inb x4 (w_n w 12 0 34) = true ∧ (if ((w_a w 12 0 34 (x4).toNatClampNeg) &&& 4) = 0 then zb_X13_nameFormals_p54 E L Q x1 x2 x3 x4 y0 0 w else zb_X13_nameFormals_p54 E L Q x1 x2 x3 x4 y0 1 w))
theorem zt_X13_nameFormals_p35 {E : zE} {L : Nat} {Q : kx_Rs → wS → Prop} {x1 : Int32} {x2 : Int32} {x3 : Int32} {x4 : Int32} {y0 : Int32} {w : wS} (hL : 28 ≤ L) (h : zb_X13_nameFormals_p35 E L Q x1 x2 x3 x4 y0 w) : kzE E L kt_M478 35 [(0, .ref (w_adr E.2.1 12 0)), (1, .int x1), (2, .int x2), (3, .int x3), (4, .int x4)] [.int y0] w Q := by
  unfold zb_X13_nameFormals_p35 at h
  refine kz_sti (M := kt_M478) [(0, .ref (w_adr E.2.1 12 0)), (1, .int x1), (2, .int x2), (3, .int x3), (4, .int x4)] kX13_nameFormals_c2.2.2.2.2.1 (Nat.le_of_ble_eq_true rfl) ⟨⟨rfl, rfl, .inl rfl⟩, ⟨⟨rfl, rfl, .inl rfl⟩, ⟨⟨rfl, rfl, .inl rfl⟩, ⟨⟨rfl, rfl, .inl rfl⟩, ⟨⟨rfl, rfl, .inr rfl⟩, trivial⟩⟩⟩⟩⟩ rfl ?_
  refine kz_aload_n (M := kt_M478) kX13_nameFormals_c2.2.2.2.2.2.1 rfl ?_
  refine kz_gfc (M := kt_M478) (x := 4106) (c := 12) (o := 0) kX13_nameFormals_c2.2.2.2.2.2.2.1 wf_X13_211 (.inl rfl) ?_
  refine kz_iload (M := kt_M478) kX13_nameFormals_c2.2.2.2.2.2.2.2.1 rfl ?_
  refine kz_iald (M := kt_M478) (c := 12) (o := 0) (k := 34) (a := (E.2.1 4106)) kX13_nameFormals_c3.1 ow_12_0_34 oa_12_0_34 ot_0 h (fun h => ?_)
  refine kz_ic (M := kt_M478) 4 kX13_nameFormals_c3.2.1 rfl ?_
  refine kz_iand (M := kt_M478) kX13_nameFormals_c3.2.2.1 ?_
  refine kz_if_eq (M := kt_M478) kX13_nameFormals_c3.2.2.2.1 (t := 53) rfl h (fun h => ?_) (fun h => ?_)
  · skip
    refine kz_ic (M := kt_M478) 0 kX13_nameFormals_c3.2.2.2.2.2.2.1 rfl ?_
    exact kz_weak [(0, .ref (w_adr E.2.1 12 0)), (1, .int x1), (2, .int x2), (3, .int x3), (4, .int x4), (5, .int y0)] ⟨rfl, ⟨rfl, ⟨rfl, ⟨rfl, ⟨rfl, ⟨rfl, trivial⟩⟩⟩⟩⟩⟩ rfl (zt_X13_nameFormals_p54 hL  h)
  · skip
    refine kz_ic (M := kt_M478) 1 kX13_nameFormals_c3.2.2.2.2.1 rfl ?_
    refine kz_goto (M := kt_M478) kX13_nameFormals_c3.2.2.2.2.2.1 (t := 54) rfl ?_
    exact kz_weak [(0, .ref (w_adr E.2.1 12 0)), (1, .int x1), (2, .int x2), (3, .int x3), (4, .int x4), (5, .int y0)] ⟨rfl, ⟨rfl, ⟨rfl, ⟨rfl, ⟨rfl, ⟨rfl, trivial⟩⟩⟩⟩⟩⟩ rfl (zt_X13_nameFormals_p54 hL  h)
def zb_X13_nameFormals_p13 (E : zE) (L : Nat) (Q : kx_Rs → wS → Prop) (x1 : Int32) (x2 : Int32) (x3 : Int32) (x4 : Int32) (w : wS) : Prop := (if x4 < 0 then (kx_inb x1 (w_n w 12 0 28) = true ∧ zL_X13_nameFormals_p248 E L Q (w_a w 12 0 28 (x1).toNatClampNeg) w) else (kx_inb x4 (w_n w 12 0 34) = true ∧ (if ((w_a w 12 0 34 (x4).toNatClampNeg) &&& 2) = 0 then zb_X13_nameFormals_p35 E L Q x1 x2 x3 x4 0 w else zb_X13_nameFormals_p35 E L Q x1 x2 x3 x4 1 w)))
theorem zt_X13_nameFormals_p13 {E : zE} {L : Nat} {Q : kx_Rs → wS → Prop} {x1 : Int32} {x2 : Int32} {x3 : Int32} {x4 : Int32} {w : wS} (hL : 28 ≤ L) (h : zb_X13_nameFormals_p13 E L Q x1 x2 x3 x4 w) : kzE E L kt_M478 13 [(0, .ref (w_adr E.2.1 12 0)), (1, .int x1), (2, .int x2), (3, .int x3), (4, .int x4)] [] w Q := by
  unfold zb_X13_nameFormals_p13 at h
  refine kz_iload (M := kt_M478) kX13_nameFormals_c1.1 rfl ?_
  refine kz_if_lt (M := kt_M478) kX13_nameFormals_c1.2.1 (t := 240) rfl h (fun h => ?_) (fun h => ?_)
  · skip
    refine kz_aload_n (M := kt_M478) kX13_nameFormals_c16.2.1 rfl ?_
    refine kz_gfc (M := kt_M478) (x := 4100) (c := 12) (o := 0) kX13_nameFormals_c16.2.2.1 wf_X13_193 (.inl rfl) ?_
    refine kz_iload_n (M := kt_M478) kX13_nameFormals_c16.2.2.2.1 rfl ?_
    refine kz_iald (M := kt_M478) (c := 12) (o := 0) (k := 28) (a := (E.2.1 4100)) kX13_nameFormals_c16.2.2.2.2.1 ow_12_0_28 oa_12_0_28 ot_0 h (fun h => ?_)
    refine kz_sti (M := kt_M478) [(0, .ref (w_adr E.2.1 12 0))] kX13_nameFormals_c16.2.2.2.2.2.1 (Nat.le_of_ble_eq_true rfl) ⟨⟨rfl, rfl, .inl rfl⟩, trivial⟩ rfl ?_
    exact kz_weak [(0, .ref (w_adr E.2.1 12 0)), (4, .int (w_a w 12 0 28 (x1).toNatClampNeg))] ⟨rfl, ⟨rfl, trivial⟩⟩ rfl h
  · skip
    refine kz_aload_n (M := kt_M478) kX13_nameFormals_c1.2.2.1 rfl ?_
    refine kz_gfc (M := kt_M478) (x := 4106) (c := 12) (o := 0) kX13_nameFormals_c1.2.2.2.1 wf_X13_211 (.inl rfl) ?_
    refine kz_iload (M := kt_M478) kX13_nameFormals_c1.2.2.2.2.1 rfl ?_
    refine kz_iald (M := kt_M478) (c := 12) (o := 0) (k := 34) (a := (E.2.1 4106)) kX13_nameFormals_c1.2.2.2.2.2.1 ow_12_0_34 oa_12_0_34 ot_0 h (fun h => ?_)
    refine kz_ic (M := kt_M478) 2 kX13_nameFormals_c1.2.2.2.2.2.2.1 rfl ?_
    refine kz_iand (M := kt_M478) kX13_nameFormals_c1.2.2.2.2.2.2.2.1 ?_
    refine kz_if_eq (M := kt_M478) kX13_nameFormals_c2.1 (t := 34) rfl h (fun h => ?_) (fun h => ?_)
    · skip
      refine kz_ic (M := kt_M478) 0 kX13_nameFormals_c2.2.2.2.1 rfl ?_
      exact kz_weak [(0, .ref (w_adr E.2.1 12 0)), (1, .int x1), (2, .int x2), (3, .int x3), (4, .int x4)] ⟨rfl, ⟨rfl, ⟨rfl, ⟨rfl, ⟨rfl, trivial⟩⟩⟩⟩⟩ rfl (zt_X13_nameFormals_p35 hL  h)
    · skip
      refine kz_ic (M := kt_M478) 1 kX13_nameFormals_c2.2.1 rfl ?_
      refine kz_goto (M := kt_M478) kX13_nameFormals_c2.2.2.1 (t := 35) rfl ?_
      exact kz_weak [(0, .ref (w_adr E.2.1 12 0)), (1, .int x1), (2, .int x2), (3, .int x3), (4, .int x4)] ⟨rfl, ⟨rfl, ⟨rfl, ⟨rfl, ⟨rfl, trivial⟩⟩⟩⟩⟩ rfl (zt_X13_nameFormals_p35 hL  h)
def zb_X13_nameFormals_p0 (E : zE) (L : Nat) (Q : kx_Rs → wS → Prop) (x1 : Int32) (x2 : Int32) (w : wS) : Prop := (kx_inb x1 (w_n w 12 0 28) = true ∧ zL_X13_nameFormals_p13 E L Q x1 x2 (w_i w 12 0 44) (w_a w 12 0 28 (x1).toNatClampNeg) w)
theorem zt_X13_nameFormals_p0 {E : zE} {L : Nat} {Q : kx_Rs → wS → Prop} {x1 : Int32} {x2 : Int32} {w : wS} (hL : 28 ≤ L) (h : zb_X13_nameFormals_p0 E L Q x1 x2 w) : kzE E L kt_M478 0 [(0, .ref (w_adr E.2.1 12 0)), (1, .int x1), (2, .int x2)] [] w Q := by
  unfold zb_X13_nameFormals_p0 at h
  refine kz_aload_n (M := kt_M478) kX13_nameFormals_c0.1 rfl ?_
  refine kz_gfi (M := kt_M478) (c := 12) (o := 0) kX13_nameFormals_c0.2.1 wf_X13_722 (.inl rfl) ?_
  refine kz_sti_n (M := kt_M478) [(0, .ref (w_adr E.2.1 12 0)), (1, .int x1), (2, .int x2)] kX13_nameFormals_c0.2.2.1 (Nat.le_of_ble_eq_true rfl) ⟨⟨rfl, rfl, .inl rfl⟩, ⟨⟨rfl, rfl, .inl rfl⟩, ⟨⟨rfl, rfl, .inr rfl⟩, trivial⟩⟩⟩ rfl ?_
  refine kz_aload_n (M := kt_M478) kX13_nameFormals_c0.2.2.2.1 rfl ?_
  refine kz_gfc (M := kt_M478) (x := 4100) (c := 12) (o := 0) kX13_nameFormals_c0.2.2.2.2.1 wf_X13_193 (.inl rfl) ?_
  refine kz_iload_n (M := kt_M478) kX13_nameFormals_c0.2.2.2.2.2.1 rfl ?_
  refine kz_iald (M := kt_M478) (c := 12) (o := 0) (k := 28) (a := (E.2.1 4100)) kX13_nameFormals_c0.2.2.2.2.2.2.1 ow_12_0_28 oa_12_0_28 ot_0 h (fun h => ?_)
  refine kz_sti (M := kt_M478) [(0, .ref (w_adr E.2.1 12 0)), (1, .int x1), (2, .int x2), (3, .int (w_i w 12 0 44))] kX13_nameFormals_c0.2.2.2.2.2.2.2.1 (Nat.le_of_ble_eq_true rfl) ⟨⟨rfl, rfl, .inl rfl⟩, ⟨⟨rfl, rfl, .inl rfl⟩, ⟨⟨rfl, rfl, .inl rfl⟩, ⟨⟨rfl, rfl, .inr rfl⟩, trivial⟩⟩⟩⟩ rfl ?_
  exact kz_weak [(0, .ref (w_adr E.2.1 12 0)), (1, .int x1), (2, .int x2), (3, .int (w_i w 12 0 44)), (4, .int (w_a w 12 0 28 (x1).toNatClampNeg))] ⟨rfl, ⟨rfl, ⟨rfl, ⟨rfl, ⟨rfl, trivial⟩⟩⟩⟩⟩ rfl h
def zL_X13_nameAction_p631 (E : zE) (L : Nat) (Q : kx_Rs → wS → Prop) (x2 : Int32) (x3 : Int32) (w : wS) : Prop := kzE E L kt_M471 631 [(0, .ref (w_adr E.2.1 12 0)), (2, .int x2), (3, .int x3)] [] w Q
def zL_X13_nameAction_p534 (E : zE) (L : Nat) (Q : kx_Rs → wS → Prop) (x2 : Int32) (x3 : Int32) (x4 : Int32) (w : wS) : Prop := kzE E L kt_M471 534 [(0, .ref (w_adr E.2.1 12 0)), (2, .int x2), (3, .int x3), (4, .int x4)] [] w Q
def zL_X13_nameAction_p522 (E : zE) (L : Nat) (Q : kx_Rs → wS → Prop) (x2 : Int32) (x3 : Int32) (w : wS) : Prop := kzE E L kt_M471 522 [(0, .ref (w_adr E.2.1 12 0)), (2, .int x2), (3, .int x3)] [] w Q
def zL_X13_nameAction_p466 (E : zE) (L : Nat) (Q : kx_Rs → wS → Prop) (x2 : Int32) (x3 : Int32) (w : wS) : Prop := kzE E L kt_M471 466 [(0, .ref (w_adr E.2.1 12 0)), (2, .int x2), (3, .int x3)] [] w Q
def zL_X13_nameAction_p429 (E : zE) (L : Nat) (Q : kx_Rs → wS → Prop) (x2 : Int32) (x3 : Int32) (w : wS) : Prop := kzE E L kt_M471 429 [(0, .ref (w_adr E.2.1 12 0)), (2, .int x2), (3, .int x3)] [] w Q
def zL_X13_nameAction_p380 (E : zE) (L : Nat) (Q : kx_Rs → wS → Prop) (x2 : Int32) (x3 : Int32) (w : wS) : Prop := kzE E L kt_M471 380 [(0, .ref (w_adr E.2.1 12 0)), (2, .int x2), (3, .int x3)] [] w Q
def zL_X13_nameAction_p259 (E : zE) (L : Nat) (Q : kx_Rs → wS → Prop) (x2 : Int32) (x3 : Int32) (x4 : Int32) (w : wS) : Prop := kzE E L kt_M471 259 [(0, .ref (w_adr E.2.1 12 0)), (2, .int x2), (3, .int x3), (4, .int x4)] [] w Q
def zL_X13_nameAction_p188 (E : zE) (L : Nat) (Q : kx_Rs → wS → Prop) (x2 : Int32) (x3 : Int32) (w : wS) : Prop := kzE E L kt_M471 188 [(0, .ref (w_adr E.2.1 12 0)), (2, .int x2), (3, .int x3)] [] w Q
def zL_X13_nameAction_p114 (E : zE) (L : Nat) (Q : kx_Rs → wS → Prop) (x2 : Int32) (x3 : Int32) (w : wS) : Prop := kzE E L kt_M471 114 [(0, .ref (w_adr E.2.1 12 0)), (2, .int x2), (3, .int x3)] [] w Q
def zL_X13_nameAction_p87 (E : zE) (L : Nat) (Q : kx_Rs → wS → Prop) (x1 : Int32) (x2 : Int32) (x3 : Int32) (w : wS) : Prop := kzE E L kt_M471 87 [(0, .ref (w_adr E.2.1 12 0)), (1, .int x1), (2, .int x2), (3, .int x3)] [] w Q
def zb_X13_nameAction_p697 (E : zE) (L : Nat) (Q : kx_Rs → wS → Prop) (x2 : Int32) (w : wS) : Prop := Q (.inl none) (ws_i w 12 0 56 x2)
theorem zt_X13_nameAction_p697 {E : zE} {L : Nat} {Q : kx_Rs → wS → Prop} {x2 : Int32} {w : wS} (hL : 24 ≤ L) (h : zb_X13_nameAction_p697 E L Q x2 w) : kzE E L kt_M471 697 [(0, .ref (w_adr E.2.1 12 0)), (2, .int x2)] [] w Q := by
  unfold zb_X13_nameAction_p697 at h
  refine kz_aload_n (M := kt_M471) kX13_nameAction_c46.2.1 rfl ?_
  refine kz_iload_n (M := kt_M471) kX13_nameAction_c46.2.2.1 rfl ?_
  refine kz_pfi (M := kt_M471) (c := 12) (o := 0) kX13_nameAction_c46.2.2.2.1 wq_X13_728 (.inl rfl) ?_
  exact kz_ret (M := kt_M471) kX13_nameAction_c46.2.2.2.2.1 rfl h
def zb_X13_nameAction_p684 (E : zE) (L : Nat) (Q : kx_Rs → wS → Prop) (x2 : Int32) (x3 : Int32) (w : wS) : Prop := (kx_inb x3 (w_n w 12 0 32) = true ∧ zL_X13_nameAction_p631 E L Q x2 (w_a w 12 0 32 (x3).toNatClampNeg) w)
theorem zt_X13_nameAction_p684 {E : zE} {L : Nat} {Q : kx_Rs → wS → Prop} {x2 : Int32} {x3 : Int32} {w : wS} (hL : 24 ≤ L) (h : zb_X13_nameAction_p684 E L Q x2 x3 w) : kzE E L kt_M471 684 [(0, .ref (w_adr E.2.1 12 0)), (2, .int x2), (3, .int x3)] [] w Q := by
  unfold zb_X13_nameAction_p684 at h
  refine kz_aload_n (M := kt_M471) kX13_nameAction_c45.2.2.1 rfl ?_
  refine kz_gfc (M := kt_M471) (x := 4104) (c := 12) (o := 0) kX13_nameAction_c45.2.2.2.1 wf_X13_205 (.inl rfl) ?_
  refine kz_iload_n (M := kt_M471) kX13_nameAction_c45.2.2.2.2.1 rfl ?_
  refine kz_iald (M := kt_M471) (c := 12) (o := 0) (k := 32) (a := (E.2.1 4104)) kX13_nameAction_c45.2.2.2.2.2.1 ow_12_0_32 oa_12_0_32 ot_0 h (fun h => ?_)
  refine kz_sti_n (M := kt_M471) [(0, .ref (w_adr E.2.1 12 0)), (2, .int x2)] kX13_nameAction_c45.2.2.2.2.2.2.1 (Nat.le_of_ble_eq_true rfl) ⟨⟨rfl, rfl, .inl rfl⟩, ⟨⟨rfl, rfl, .inr rfl⟩, trivial⟩⟩ rfl ?_
  refine kz_goto (M := kt_M471) kX13_nameAction_c45.2.2.2.2.2.2.2.1 (t := 631) rfl ?_
  exact kz_weak [(0, .ref (w_adr E.2.1 12 0)), (2, .int x2), (3, .int (w_a w 12 0 32 (x3).toNatClampNeg))] ⟨rfl, ⟨rfl, ⟨rfl, trivial⟩⟩⟩ rfl h
def zb_X13_nameAction_p655 (E : zE) (L : Nat) (Q : kx_Rs → wS → Prop) (x2 : Int32) (x3 : Int32) (w : wS) : Prop := (kx_inb x3 (w_n w 12 0 29) = true ∧ zw E (L - 24) kt_M471 [.ref (w_adr E.2.1 12 0), .int (w_a w 12 0 29 (x3).toNatClampNeg)] w (wk0 (fun w1 => wle w w1 → (kx_inb x3 (w_n w1 12 0 30) = true ∧ (if w_a w1 12 0 30 (x3).toNatClampNeg < 0 then zb_X13_nameAction_p684 E L Q x2 x3 w1 else (kx_inb x3 (w_n w1 12 0 30) = true ∧ zw E (L - 22) kt_M473 [.ref (w_adr E.2.1 12 0), .int (w_a w1 12 0 30 (x3).toNatClampNeg)] w1 (wk0 (fun w3 => wle w1 w3 → zb_X13_nameAction_p684 E L Q x2 x3 w3) (fun e w => Q (.inr e) w)))))) (fun e w => Q (.inr e) w)))
theorem zt_X13_nameAction_p655 {E : zE} {L : Nat} {Q : kx_Rs → wS → Prop} {x2 : Int32} {x3 : Int32} {w : wS} (hL : 24 ≤ L) (h : zb_X13_nameAction_p655 E L Q x2 x3 w) : kzE E L kt_M471 655 [(0, .ref (w_adr E.2.1 12 0)), (2, .int x2), (3, .int x3)] [] w Q := by
  unfold zb_X13_nameAction_p655 at h
  refine kz_aload_n (M := kt_M471) kX13_nameAction_c43.2.1 rfl ?_
  refine kz_aload_n (M := kt_M471) kX13_nameAction_c43.2.2.1 rfl ?_
  refine kz_gfc (M := kt_M471) (x := 4101) (c := 12) (o := 0) kX13_nameAction_c43.2.2.2.1 wf_X13_196 (.inl rfl) ?_
  refine kz_iload_n (M := kt_M471) kX13_nameAction_c43.2.2.2.2.1 rfl ?_
  refine kz_iald (M := kt_M471) (c := 12) (o := 0) (k := 29) (a := (E.2.1 4101)) kX13_nameAction_c43.2.2.2.2.2.1 ow_12_0_29 oa_12_0_29 ot_0 h (fun h => ?_)
  refine kz_cv0 (M := kt_M471) (c := 12) (o := 0) (As := [.int (w_a w 12 0 29 (x3).toNatClampNeg)]) (rest := []) kX13_nameAction_c43.2.2.2.2.2.2.1 wl_X13_753 wMv_471 rfl (.inl rfl) rfl (Nat.le_trans (Nat.le_of_ble_eq_true rfl) hL) (Nat.le_of_ble_eq_true rfl) (Nat.le_of_ble_eq_true rfl) h (fun w1 hle h => ?_) (fun _ _ _ h => kzx_no rfl h)
  have h := h hle
  refine kz_aload_n (M := kt_M471) kX13_nameAction_c43.2.2.2.2.2.2.2.1 rfl ?_
  refine kz_gfc (M := kt_M471) (x := 4102) (c := 12) (o := 0) kX13_nameAction_c44.1 wf_X13_199 (.inl rfl) ?_
  refine kz_iload_n (M := kt_M471) kX13_nameAction_c44.2.1 rfl ?_
  refine kz_iald (M := kt_M471) (c := 12) (o := 0) (k := 30) (a := (E.2.1 4102)) kX13_nameAction_c44.2.2.1 ow_12_0_30 oa_12_0_30 ot_0 h (fun h => ?_)
  refine kz_if_lt (M := kt_M471) kX13_nameAction_c44.2.2.2.1 (t := 684) rfl h (fun h => ?_) (fun h => ?_)
  · skip
    exact kz_weak [(0, .ref (w_adr E.2.1 12 0)), (2, .int x2), (3, .int x3)] ⟨rfl, ⟨rfl, ⟨rfl, trivial⟩⟩⟩ rfl (zt_X13_nameAction_p684 hL  h)
  · skip
    refine kz_aload_n (M := kt_M471) kX13_nameAction_c44.2.2.2.2.1 rfl ?_
    refine kz_aload_n (M := kt_M471) kX13_nameAction_c44.2.2.2.2.2.1 rfl ?_
    refine kz_gfc (M := kt_M471) (x := 4102) (c := 12) (o := 0) kX13_nameAction_c44.2.2.2.2.2.2.1 wf_X13_199 (.inl rfl) ?_
    refine kz_iload_n (M := kt_M471) kX13_nameAction_c44.2.2.2.2.2.2.2.1 rfl ?_
    refine kz_iald (M := kt_M471) (c := 12) (o := 0) (k := 30) (a := (E.2.1 4102)) kX13_nameAction_c45.1 ow_12_0_30 oa_12_0_30 ot_0 h (fun h => ?_)
    refine kz_cv0 (M := kt_M471) (c := 12) (o := 0) (As := [.int (w_a w1 12 0 30 (x3).toNatClampNeg)]) (rest := []) kX13_nameAction_c45.2.1 wl_X13_772 wMv_473 rfl (.inl rfl) rfl (Nat.le_trans (Nat.le_of_ble_eq_true rfl) hL) (Nat.le_of_ble_eq_true rfl) (Nat.le_of_ble_eq_true rfl) h (fun w3 hle h => ?_) (fun _ _ _ h => kzx_no rfl h)
    have h := h hle
    exact kz_weak [(0, .ref (w_adr E.2.1 12 0)), (2, .int x2), (3, .int x3)] ⟨rfl, ⟨rfl, ⟨rfl, trivial⟩⟩⟩ rfl (zt_X13_nameAction_p684 hL  h)
def zb_X13_nameAction_p631 (E : zE) (L : Nat) (Q : kx_Rs → wS → Prop) (x2 : Int32) (x3 : Int32) (w : wS) : Prop := (if x3 < 0 then zb_X13_nameAction_p697 E L Q x2 w else (kx_inb x3 (w_n w 12 0 28) = true ∧ (if w_a w 12 0 28 (x3).toNatClampNeg < 0 then zb_X13_nameAction_p655 E L Q x2 x3 w else (kx_inb x3 (w_n w 12 0 28) = true ∧ zw E (L - 24) kt_M476 [.ref (w_adr E.2.1 12 0), .int (w_a w 12 0 28 (x3).toNatClampNeg), .int 0] w (wk0 (fun w1 => wle w w1 → zb_X13_nameAction_p655 E L Q x2 x3 w1) (fun e w => Q (.inr e) w))))))
theorem zt_X13_nameAction_p631 {E : zE} {L : Nat} {Q : kx_Rs → wS → Prop} {x2 : Int32} {x3 : Int32} {w : wS} (hL : 24 ≤ L) (h : zb_X13_nameAction_p631 E L Q x2 x3 w) : kzE E L kt_M471 631 [(0, .ref (w_adr E.2.1 12 0)), (2, .int x2), (3, .int x3)] [] w Q := by
  unfold zb_X13_nameAction_p631 at h
  refine kz_iload_n (M := kt_M471) kX13_nameAction_c41.2.2.2.1 rfl ?_
  refine kz_if_lt (M := kt_M471) kX13_nameAction_c41.2.2.2.2.1 (t := 694) rfl h (fun h => ?_) (fun h => ?_)
  · skip
    refine kz_goto (M := kt_M471) kX13_nameAction_c46.1 (t := 697) rfl ?_
    exact kz_weak [(0, .ref (w_adr E.2.1 12 0)), (2, .int x2)] ⟨rfl, ⟨rfl, trivial⟩⟩ rfl (zt_X13_nameAction_p697 hL  h)
  · skip
    refine kz_aload_n (M := kt_M471) kX13_nameAction_c41.2.2.2.2.2.1 rfl ?_
    refine kz_gfc (M := kt_M471) (x := 4100) (c := 12) (o := 0) kX13_nameAction_c41.2.2.2.2.2.2.1 wf_X13_193 (.inl rfl) ?_
    refine kz_iload_n (M := kt_M471) kX13_nameAction_c41.2.2.2.2.2.2.2.1 rfl ?_
    refine kz_iald (M := kt_M471) (c := 12) (o := 0) (k := 28) (a := (E.2.1 4100)) kX13_nameAction_c42.1 ow_12_0_28 oa_12_0_28 ot_0 h (fun h => ?_)
    refine kz_if_lt (M := kt_M471) kX13_nameAction_c42.2.1 (t := 655) rfl h (fun h => ?_) (fun h => ?_)
    · skip
      exact kz_weak [(0, .ref (w_adr E.2.1 12 0)), (2, .int x2), (3, .int x3)] ⟨rfl, ⟨rfl, ⟨rfl, trivial⟩⟩⟩ rfl (zt_X13_nameAction_p655 hL  h)
    · skip
      refine kz_aload_n (M := kt_M471) kX13_nameAction_c42.2.2.1 rfl ?_
      refine kz_aload_n (M := kt_M471) kX13_nameAction_c42.2.2.2.1 rfl ?_
      refine kz_gfc (M := kt_M471) (x := 4100) (c := 12) (o := 0) kX13_nameAction_c42.2.2.2.2.1 wf_X13_193 (.inl rfl) ?_
      refine kz_iload_n (M := kt_M471) kX13_nameAction_c42.2.2.2.2.2.1 rfl ?_
      refine kz_iald (M := kt_M471) (c := 12) (o := 0) (k := 28) (a := (E.2.1 4100)) kX13_nameAction_c42.2.2.2.2.2.2.1 ow_12_0_28 oa_12_0_28 ot_0 h (fun h => ?_)
      refine kz_ic (M := kt_M471) 0 kX13_nameAction_c42.2.2.2.2.2.2.2.1 rfl ?_
      refine kz_cv0 (M := kt_M471) (c := 12) (o := 0) (As := [.int (w_a w 12 0 28 (x3).toNatClampNeg), .int 0]) (rest := []) kX13_nameAction_c43.1 wl_X13_743 wMv_476 rfl (.inl rfl) rfl (Nat.le_trans (Nat.le_of_ble_eq_true rfl) hL) (Nat.le_of_ble_eq_true rfl) (Nat.le_of_ble_eq_true rfl) h (fun w1 hle h => ?_) (fun _ _ _ h => kzx_no rfl h)
      have h := h hle
      exact kz_weak [(0, .ref (w_adr E.2.1 12 0)), (2, .int x2), (3, .int x3)] ⟨rfl, ⟨rfl, ⟨rfl, trivial⟩⟩⟩ rfl (zt_X13_nameAction_p655 hL  h)
def zb_X13_nameAction_p624 (E : zE) (L : Nat) (Q : kx_Rs → wS → Prop) (x1 : Int32) (x2 : Int32) (w : wS) : Prop := (kx_inb x1 (w_n w 12 0 29) = true ∧ zL_X13_nameAction_p631 E L Q x2 (w_a w 12 0 29 (x1).toNatClampNeg) w)
theorem zt_X13_nameAction_p624 {E : zE} {L : Nat} {Q : kx_Rs → wS → Prop} {x1 : Int32} {x2 : Int32} {w : wS} (hL : 24 ≤ L) (h : zb_X13_nameAction_p624 E L Q x1 x2 w) : kzE E L kt_M471 624 [(0, .ref (w_adr E.2.1 12 0)), (1, .int x1), (2, .int x2)] [] w Q := by
  unfold zb_X13_nameAction_p624 at h
  refine kz_aload_n (M := kt_M471) kX13_nameAction_c40.2.2.2.2.2.2.1 rfl ?_
  refine kz_gfc (M := kt_M471) (x := 4101) (c := 12) (o := 0) kX13_nameAction_c40.2.2.2.2.2.2.2.1 wf_X13_196 (.inl rfl) ?_
  refine kz_iload_n (M := kt_M471) kX13_nameAction_c41.1 rfl ?_
  refine kz_iald (M := kt_M471) (c := 12) (o := 0) (k := 29) (a := (E.2.1 4101)) kX13_nameAction_c41.2.1 ow_12_0_29 oa_12_0_29 ot_0 h (fun h => ?_)
  refine kz_sti_n (M := kt_M471) [(0, .ref (w_adr E.2.1 12 0)), (2, .int x2)] kX13_nameAction_c41.2.2.1 (Nat.le_of_ble_eq_true rfl) ⟨⟨rfl, rfl, .inl rfl⟩, ⟨⟨rfl, rfl, .inr rfl⟩, trivial⟩⟩ rfl ?_
  exact kz_weak [(0, .ref (w_adr E.2.1 12 0)), (2, .int x2), (3, .int (w_a w 12 0 29 (x1).toNatClampNeg))] ⟨rfl, ⟨rfl, ⟨rfl, trivial⟩⟩⟩ rfl h
def zb_X13_nameAction_p534 (E : zE) (L : Nat) (Q : kx_Rs → wS → Prop) (x2 : Int32) (x3 : Int32) (x4 : Int32) (w : wS) : Prop := (if x4 < 0 then (kx_inb x3 (w_n w 12 0 29) = true ∧ zw E (L - 22) kt_M473 [.ref (w_adr E.2.1 12 0), .int (w_a w 12 0 29 (x3).toNatClampNeg)] w (wk0 (fun w1 => wle w w1 → (kx_inb x3 (w_n w1 12 0 32) = true ∧ zL_X13_nameAction_p522 E L Q x2 (w_a w1 12 0 32 (x3).toNatClampNeg) w1)) (fun e w => Q (.inr e) w))) else zw E (L - 24) kt_M476 [.ref (w_adr E.2.1 12 0), .int x4, .int 0] w (wk0 (fun w3 => wle w w3 → (kx_inb x4 (w_n w3 12 0 32) = true ∧ zL_X13_nameAction_p534 E L Q x2 x3 (w_a w3 12 0 32 (x4).toNatClampNeg) w3)) (fun e w => Q (.inr e) w)))
theorem zt_X13_nameAction_p534 {E : zE} {L : Nat} {Q : kx_Rs → wS → Prop} {x2 : Int32} {x3 : Int32} {x4 : Int32} {w : wS} (hL : 24 ≤ L) (h : zb_X13_nameAction_p534 E L Q x2 x3 x4 w) : kzE E L kt_M471 534 [(0, .ref (w_adr E.2.1 12 0)), (2, .int x2), (3, .int x3), (4, .int x4)] [] w Q := by
  unfold zb_X13_nameAction_p534 at h
  refine kz_iload (M := kt_M471) kX13_nameAction_c34.2.2.2.2.1 rfl ?_
  refine kz_if_lt (M := kt_M471) kX13_nameAction_c34.2.2.2.2.2.1 (t := 558) rfl h (fun h => ?_) (fun h => ?_)
  · skip
    refine kz_aload_n (M := kt_M471) kX13_nameAction_c36.1 rfl ?_
    refine kz_aload_n (M := kt_M471) kX13_nameAction_c36.2.1 rfl ?_
    refine kz_gfc (M := kt_M471) (x := 4101) (c := 12) (o := 0) kX13_nameAction_c36.2.2.1 wf_X13_196 (.inl rfl) ?_
    refine kz_iload_n (M := kt_M471) kX13_nameAction_c36.2.2.2.1 rfl ?_
    refine kz_iald (M := kt_M471) (c := 12) (o := 0) (k := 29) (a := (E.2.1 4101)) kX13_nameAction_c36.2.2.2.2.1 ow_12_0_29 oa_12_0_29 ot_0 h (fun h => ?_)
    refine kz_cv0 (M := kt_M471) (c := 12) (o := 0) (As := [.int (w_a w 12 0 29 (x3).toNatClampNeg)]) (rest := []) kX13_nameAction_c36.2.2.2.2.2.1 wl_X13_772 wMv_473 rfl (.inl rfl) rfl (Nat.le_trans (Nat.le_of_ble_eq_true rfl) hL) (Nat.le_of_ble_eq_true rfl) (Nat.le_of_ble_eq_true rfl) h (fun w1 hle h => ?_) (fun _ _ _ h => kzx_no rfl h)
    have h := h hle
    refine kz_aload_n (M := kt_M471) kX13_nameAction_c36.2.2.2.2.2.2.1 rfl ?_
    refine kz_gfc (M := kt_M471) (x := 4104) (c := 12) (o := 0) kX13_nameAction_c36.2.2.2.2.2.2.2.1 wf_X13_205 (.inl rfl) ?_
    refine kz_iload_n (M := kt_M471) kX13_nameAction_c37.1 rfl ?_
    refine kz_iald (M := kt_M471) (c := 12) (o := 0) (k := 32) (a := (E.2.1 4104)) kX13_nameAction_c37.2.1 ow_12_0_32 oa_12_0_32 ot_0 h (fun h => ?_)
    refine kz_sti_n (M := kt_M471) [(0, .ref (w_adr E.2.1 12 0)), (2, .int x2)] kX13_nameAction_c37.2.2.1 (Nat.le_of_ble_eq_true rfl) ⟨⟨rfl, rfl, .inl rfl⟩, ⟨⟨rfl, rfl, .inr rfl⟩, trivial⟩⟩ rfl ?_
    refine kz_goto (M := kt_M471) kX13_nameAction_c37.2.2.2.1 (t := 522) rfl ?_
    exact kz_weak [(0, .ref (w_adr E.2.1 12 0)), (2, .int x2), (3, .int (w_a w1 12 0 32 (x3).toNatClampNeg))] ⟨rfl, ⟨rfl, ⟨rfl, trivial⟩⟩⟩ rfl h
  · skip
    refine kz_aload_n (M := kt_M471) kX13_nameAction_c34.2.2.2.2.2.2.1 rfl ?_
    refine kz_iload (M := kt_M471) kX13_nameAction_c34.2.2.2.2.2.2.2.1 rfl ?_
    refine kz_ic (M := kt_M471) 0 kX13_nameAction_c35.1 rfl ?_
    refine kz_cv0 (M := kt_M471) (c := 12) (o := 0) (As := [.int x4, .int 0]) (rest := []) kX13_nameAction_c35.2.1 wl_X13_743 wMv_476 rfl (.inl rfl) rfl (Nat.le_trans (Nat.le_of_ble_eq_true rfl) hL) (Nat.le_of_ble_eq_true rfl) (Nat.le_of_ble_eq_true rfl) h (fun w3 hle h => ?_) (fun _ _ _ h => kzx_no rfl h)
    have h := h hle
    refine kz_aload_n (M := kt_M471) kX13_nameAction_c35.2.2.1 rfl ?_
    refine kz_gfc (M := kt_M471) (x := 4104) (c := 12) (o := 0) kX13_nameAction_c35.2.2.2.1 wf_X13_205 (.inl rfl) ?_
    refine kz_iload (M := kt_M471) kX13_nameAction_c35.2.2.2.2.1 rfl ?_
    refine kz_iald (M := kt_M471) (c := 12) (o := 0) (k := 32) (a := (E.2.1 4104)) kX13_nameAction_c35.2.2.2.2.2.1 ow_12_0_32 oa_12_0_32 ot_0 h (fun h => ?_)
    refine kz_sti (M := kt_M471) [(0, .ref (w_adr E.2.1 12 0)), (2, .int x2), (3, .int x3)] kX13_nameAction_c35.2.2.2.2.2.2.1 (Nat.le_of_ble_eq_true rfl) ⟨⟨rfl, rfl, .inl rfl⟩, ⟨⟨rfl, rfl, .inl rfl⟩, ⟨⟨rfl, rfl, .inr rfl⟩, trivial⟩⟩⟩ rfl ?_
    refine kz_goto (M := kt_M471) kX13_nameAction_c35.2.2.2.2.2.2.2.1 (t := 534) rfl ?_
    exact kz_weak [(0, .ref (w_adr E.2.1 12 0)), (2, .int x2), (3, .int x3), (4, .int (w_a w3 12 0 32 (x4).toNatClampNeg))] ⟨rfl, ⟨rfl, ⟨rfl, ⟨rfl, trivial⟩⟩⟩⟩ rfl h
def zb_X13_nameAction_p522 (E : zE) (L : Nat) (Q : kx_Rs → wS → Prop) (x2 : Int32) (x3 : Int32) (w : wS) : Prop := (if x3 < 0 then zb_X13_nameAction_p697 E L Q x2 w else (kx_inb x3 (w_n w 12 0 28) = true ∧ zL_X13_nameAction_p534 E L Q x2 x3 (w_a w 12 0 28 (x3).toNatClampNeg) w))
theorem zt_X13_nameAction_p522 {E : zE} {L : Nat} {Q : kx_Rs → wS → Prop} {x2 : Int32} {x3 : Int32} {w : wS} (hL : 24 ≤ L) (h : zb_X13_nameAction_p522 E L Q x2 x3 w) : kzE E L kt_M471 522 [(0, .ref (w_adr E.2.1 12 0)), (2, .int x2), (3, .int x3)] [] w Q := by
  unfold zb_X13_nameAction_p522 at h
  refine kz_iload_n (M := kt_M471) kX13_nameAction_c33.2.2.2.2.2.1 rfl ?_
  refine kz_if_lt (M := kt_M471) kX13_nameAction_c33.2.2.2.2.2.2.1 (t := 578) rfl h (fun h => ?_) (fun h => ?_)
  · skip
    refine kz_goto (M := kt_M471) kX13_nameAction_c37.2.2.2.2.1 (t := 697) rfl ?_
    exact kz_weak [(0, .ref (w_adr E.2.1 12 0)), (2, .int x2)] ⟨rfl, ⟨rfl, trivial⟩⟩ rfl (zt_X13_nameAction_p697 hL  h)
  · skip
    refine kz_aload_n (M := kt_M471) kX13_nameAction_c33.2.2.2.2.2.2.2.1 rfl ?_
    refine kz_gfc (M := kt_M471) (x := 4100) (c := 12) (o := 0) kX13_nameAction_c34.1 wf_X13_193 (.inl rfl) ?_
    refine kz_iload_n (M := kt_M471) kX13_nameAction_c34.2.1 rfl ?_
    refine kz_iald (M := kt_M471) (c := 12) (o := 0) (k := 28) (a := (E.2.1 4100)) kX13_nameAction_c34.2.2.1 ow_12_0_28 oa_12_0_28 ot_0 h (fun h => ?_)
    refine kz_sti (M := kt_M471) [(0, .ref (w_adr E.2.1 12 0)), (2, .int x2), (3, .int x3)] kX13_nameAction_c34.2.2.2.1 (Nat.le_of_ble_eq_true rfl) ⟨⟨rfl, rfl, .inl rfl⟩, ⟨⟨rfl, rfl, .inl rfl⟩, ⟨⟨rfl, rfl, .inr rfl⟩, trivial⟩⟩⟩ rfl ?_
    exact kz_weak [(0, .ref (w_adr E.2.1 12 0)), (2, .int x2), (3, .int x3), (4, .int (w_a w 12 0 28 (x3).toNatClampNeg))] ⟨rfl, ⟨rfl, ⟨rfl, ⟨rfl, trivial⟩⟩⟩⟩ rfl h
def zb_X13_nameAction_p466 (E : zE) (L : Nat) (Q : kx_Rs → wS → Prop) (x2 : Int32) (x3 : Int32) (w : wS) : Prop := (if x3 < 0 then zb_X13_nameAction_p697 E L Q x2 w else (kx_inb x3 (w_n w 12 0 28) = true ∧ zw E (L - 24) kt_M476 [.ref (w_adr E.2.1 12 0), .int (w_a w 12 0 28 (x3).toNatClampNeg), .int 0] w (wk0 (fun w1 => wle w w1 → (kx_inb x3 (w_n w1 12 0 29) = true ∧ zw E (L - 22) kt_M473 [.ref (w_adr E.2.1 12 0), .int (w_a w1 12 0 29 (x3).toNatClampNeg)] w1 (wk0 (fun w3 => wle w1 w3 → (kx_inb x3 (w_n w3 12 0 32) = true ∧ zL_X13_nameAction_p466 E L Q x2 (w_a w3 12 0 32 (x3).toNatClampNeg) w3)) (fun e w => Q (.inr e) w)))) (fun e w => Q (.inr e) w))))
theorem zt_X13_nameAction_p466 {E : zE} {L : Nat} {Q : kx_Rs → wS → Prop} {x2 : Int32} {x3 : Int32} {w : wS} (hL : 24 ≤ L) (h : zb_X13_nameAction_p466 E L Q x2 x3 w) : kzE E L kt_M471 466 [(0, .ref (w_adr E.2.1 12 0)), (2, .int x2), (3, .int x3)] [] w Q := by
  unfold zb_X13_nameAction_p466 at h
  refine kz_iload_n (M := kt_M471) kX13_nameAction_c29.2.2.2.1 rfl ?_
  refine kz_if_lt (M := kt_M471) kX13_nameAction_c29.2.2.2.2.1 (t := 501) rfl h (fun h => ?_) (fun h => ?_)
  · skip
    refine kz_goto (M := kt_M471) kX13_nameAction_c32.1 (t := 697) rfl ?_
    exact kz_weak [(0, .ref (w_adr E.2.1 12 0)), (2, .int x2)] ⟨rfl, ⟨rfl, trivial⟩⟩ rfl (zt_X13_nameAction_p697 hL  h)
  · skip
    refine kz_aload_n (M := kt_M471) kX13_nameAction_c29.2.2.2.2.2.1 rfl ?_
    refine kz_aload_n (M := kt_M471) kX13_nameAction_c29.2.2.2.2.2.2.1 rfl ?_
    refine kz_gfc (M := kt_M471) (x := 4100) (c := 12) (o := 0) kX13_nameAction_c29.2.2.2.2.2.2.2.1 wf_X13_193 (.inl rfl) ?_
    refine kz_iload_n (M := kt_M471) kX13_nameAction_c30.1 rfl ?_
    refine kz_iald (M := kt_M471) (c := 12) (o := 0) (k := 28) (a := (E.2.1 4100)) kX13_nameAction_c30.2.1 ow_12_0_28 oa_12_0_28 ot_0 h (fun h => ?_)
    refine kz_ic (M := kt_M471) 0 kX13_nameAction_c30.2.2.1 rfl ?_
    refine kz_cv0 (M := kt_M471) (c := 12) (o := 0) (As := [.int (w_a w 12 0 28 (x3).toNatClampNeg), .int 0]) (rest := []) kX13_nameAction_c30.2.2.2.1 wl_X13_743 wMv_476 rfl (.inl rfl) rfl (Nat.le_trans (Nat.le_of_ble_eq_true rfl) hL) (Nat.le_of_ble_eq_true rfl) (Nat.le_of_ble_eq_true rfl) h (fun w1 hle h => ?_) (fun _ _ _ h => kzx_no rfl h)
    have h := h hle
    refine kz_aload_n (M := kt_M471) kX13_nameAction_c30.2.2.2.2.1 rfl ?_
    refine kz_aload_n (M := kt_M471) kX13_nameAction_c30.2.2.2.2.2.1 rfl ?_
    refine kz_gfc (M := kt_M471) (x := 4101) (c := 12) (o := 0) kX13_nameAction_c30.2.2.2.2.2.2.1 wf_X13_196 (.inl rfl) ?_
    refine kz_iload_n (M := kt_M471) kX13_nameAction_c30.2.2.2.2.2.2.2.1 rfl ?_
    refine kz_iald (M := kt_M471) (c := 12) (o := 0) (k := 29) (a := (E.2.1 4101)) kX13_nameAction_c31.1 ow_12_0_29 oa_12_0_29 ot_0 h (fun h => ?_)
    refine kz_cv0 (M := kt_M471) (c := 12) (o := 0) (As := [.int (w_a w1 12 0 29 (x3).toNatClampNeg)]) (rest := []) kX13_nameAction_c31.2.1 wl_X13_772 wMv_473 rfl (.inl rfl) rfl (Nat.le_trans (Nat.le_of_ble_eq_true rfl) hL) (Nat.le_of_ble_eq_true rfl) (Nat.le_of_ble_eq_true rfl) h (fun w3 hle h => ?_) (fun _ _ _ h => kzx_no rfl h)
    have h := h hle
    refine kz_aload_n (M := kt_M471) kX13_nameAction_c31.2.2.1 rfl ?_
    refine kz_gfc (M := kt_M471) (x := 4104) (c := 12) (o := 0) kX13_nameAction_c31.2.2.2.1 wf_X13_205 (.inl rfl) ?_
    refine kz_iload_n (M := kt_M471) kX13_nameAction_c31.2.2.2.2.1 rfl ?_
    refine kz_iald (M := kt_M471) (c := 12) (o := 0) (k := 32) (a := (E.2.1 4104)) kX13_nameAction_c31.2.2.2.2.2.1 ow_12_0_32 oa_12_0_32 ot_0 h (fun h => ?_)
    refine kz_sti_n (M := kt_M471) [(0, .ref (w_adr E.2.1 12 0)), (2, .int x2)] kX13_nameAction_c31.2.2.2.2.2.2.1 (Nat.le_of_ble_eq_true rfl) ⟨⟨rfl, rfl, .inl rfl⟩, ⟨⟨rfl, rfl, .inr rfl⟩, trivial⟩⟩ rfl ?_
    refine kz_goto (M := kt_M471) kX13_nameAction_c31.2.2.2.2.2.2.2.1 (t := 466) rfl ?_
    exact kz_weak [(0, .ref (w_adr E.2.1 12 0)), (2, .int x2), (3, .int (w_a w3 12 0 32 (x3).toNatClampNeg))] ⟨rfl, ⟨rfl, ⟨rfl, trivial⟩⟩⟩ rfl h
def zb_X13_nameAction_p429 (E : zE) (L : Nat) (Q : kx_Rs → wS → Prop) (x2 : Int32) (x3 : Int32) (w : wS) : Prop := (if x3 < 0 then zb_X13_nameAction_p697 E L Q x2 w else zw E (L - 22) kt_M473 [.ref (w_adr E.2.1 12 0), .int x3] w (wk0 (fun w1 => wle w w1 → (kx_inb x3 (w_n w1 12 0 32) = true ∧ zL_X13_nameAction_p429 E L Q x2 (w_a w1 12 0 32 (x3).toNatClampNeg) w1)) (fun e w => Q (.inr e) w)))
theorem zt_X13_nameAction_p429 {E : zE} {L : Nat} {Q : kx_Rs → wS → Prop} {x2 : Int32} {x3 : Int32} {w : wS} (hL : 24 ≤ L) (h : zb_X13_nameAction_p429 E L Q x2 x3 w) : kzE E L kt_M471 429 [(0, .ref (w_adr E.2.1 12 0)), (2, .int x2), (3, .int x3)] [] w Q := by
  unfold zb_X13_nameAction_p429 at h
  refine kz_iload_n (M := kt_M471) kX13_nameAction_c26.2.2.2.2.2.2.1 rfl ?_
  refine kz_if_lt (M := kt_M471) kX13_nameAction_c26.2.2.2.2.2.2.2.1 (t := 448) rfl h (fun h => ?_) (fun h => ?_)
  · skip
    refine kz_goto (M := kt_M471) kX13_nameAction_c28.2.1 (t := 697) rfl ?_
    exact kz_weak [(0, .ref (w_adr E.2.1 12 0)), (2, .int x2)] ⟨rfl, ⟨rfl, trivial⟩⟩ rfl (zt_X13_nameAction_p697 hL  h)
  · skip
    refine kz_aload_n (M := kt_M471) kX13_nameAction_c27.1 rfl ?_
    refine kz_iload_n (M := kt_M471) kX13_nameAction_c27.2.1 rfl ?_
    refine kz_cv0 (M := kt_M471) (c := 12) (o := 0) (As := [.int x3]) (rest := []) kX13_nameAction_c27.2.2.1 wl_X13_772 wMv_473 rfl (.inl rfl) rfl (Nat.le_trans (Nat.le_of_ble_eq_true rfl) hL) (Nat.le_of_ble_eq_true rfl) (Nat.le_of_ble_eq_true rfl) h (fun w1 hle h => ?_) (fun _ _ _ h => kzx_no rfl h)
    have h := h hle
    refine kz_aload_n (M := kt_M471) kX13_nameAction_c27.2.2.2.1 rfl ?_
    refine kz_gfc (M := kt_M471) (x := 4104) (c := 12) (o := 0) kX13_nameAction_c27.2.2.2.2.1 wf_X13_205 (.inl rfl) ?_
    refine kz_iload_n (M := kt_M471) kX13_nameAction_c27.2.2.2.2.2.1 rfl ?_
    refine kz_iald (M := kt_M471) (c := 12) (o := 0) (k := 32) (a := (E.2.1 4104)) kX13_nameAction_c27.2.2.2.2.2.2.1 ow_12_0_32 oa_12_0_32 ot_0 h (fun h => ?_)
    refine kz_sti_n (M := kt_M471) [(0, .ref (w_adr E.2.1 12 0)), (2, .int x2)] kX13_nameAction_c27.2.2.2.2.2.2.2.1 (Nat.le_of_ble_eq_true rfl) ⟨⟨rfl, rfl, .inl rfl⟩, ⟨⟨rfl, rfl, .inr rfl⟩, trivial⟩⟩ rfl ?_
    refine kz_goto (M := kt_M471) kX13_nameAction_c28.1 (t := 429) rfl ?_
    exact kz_weak [(0, .ref (w_adr E.2.1 12 0)), (2, .int x2), (3, .int (w_a w1 12 0 32 (x3).toNatClampNeg))] ⟨rfl, ⟨rfl, ⟨rfl, trivial⟩⟩⟩ rfl h
def zb_X13_nameAction_p422 (E : zE) (L : Nat) (Q : kx_Rs → wS → Prop) (x1 : Int32) (x2 : Int32) (w : wS) : Prop := (kx_inb x1 (w_n w 12 0 29) = true ∧ zL_X13_nameAction_p429 E L Q x2 (w_a w 12 0 29 (x1).toNatClampNeg) w)
theorem zt_X13_nameAction_p422 {E : zE} {L : Nat} {Q : kx_Rs → wS → Prop} {x1 : Int32} {x2 : Int32} {w : wS} (hL : 24 ≤ L) (h : zb_X13_nameAction_p422 E L Q x1 x2 w) : kzE E L kt_M471 422 [(0, .ref (w_adr E.2.1 12 0)), (1, .int x1), (2, .int x2)] [] w Q := by
  unfold zb_X13_nameAction_p422 at h
  refine kz_aload_n (M := kt_M471) kX13_nameAction_c26.2.1 rfl ?_
  refine kz_gfc (M := kt_M471) (x := 4101) (c := 12) (o := 0) kX13_nameAction_c26.2.2.1 wf_X13_196 (.inl rfl) ?_
  refine kz_iload_n (M := kt_M471) kX13_nameAction_c26.2.2.2.1 rfl ?_
  refine kz_iald (M := kt_M471) (c := 12) (o := 0) (k := 29) (a := (E.2.1 4101)) kX13_nameAction_c26.2.2.2.2.1 ow_12_0_29 oa_12_0_29 ot_0 h (fun h => ?_)
  refine kz_sti_n (M := kt_M471) [(0, .ref (w_adr E.2.1 12 0)), (2, .int x2)] kX13_nameAction_c26.2.2.2.2.2.1 (Nat.le_of_ble_eq_true rfl) ⟨⟨rfl, rfl, .inl rfl⟩, ⟨⟨rfl, rfl, .inr rfl⟩, trivial⟩⟩ rfl ?_
  exact kz_weak [(0, .ref (w_adr E.2.1 12 0)), (2, .int x2), (3, .int (w_a w 12 0 29 (x1).toNatClampNeg))] ⟨rfl, ⟨rfl, ⟨rfl, trivial⟩⟩⟩ rfl h
def zb_X13_nameAction_p380 (E : zE) (L : Nat) (Q : kx_Rs → wS → Prop) (x2 : Int32) (x3 : Int32) (w : wS) : Prop := (if x3 < 0 then zb_X13_nameAction_p697 E L Q x2 w else zw E (L - 24) kt_M476 [.ref (w_adr E.2.1 12 0), .int x3, .int 1] w (wk0 (fun w1 => wle w w1 → (kx_inb x3 (w_n w1 12 0 32) = true ∧ zL_X13_nameAction_p380 E L Q x2 (w_a w1 12 0 32 (x3).toNatClampNeg) w1)) (fun e w => Q (.inr e) w)))
theorem zt_X13_nameAction_p380 {E : zE} {L : Nat} {Q : kx_Rs → wS → Prop} {x2 : Int32} {x3 : Int32} {w : wS} (hL : 24 ≤ L) (h : zb_X13_nameAction_p380 E L Q x2 x3 w) : kzE E L kt_M471 380 [(0, .ref (w_adr E.2.1 12 0)), (2, .int x2), (3, .int x3)] [] w Q := by
  unfold zb_X13_nameAction_p380 at h
  refine kz_iload_n (M := kt_M471) kX13_nameAction_c23.2.1 rfl ?_
  refine kz_if_lt (M := kt_M471) kX13_nameAction_c23.2.2.1 (t := 400) rfl h (fun h => ?_) (fun h => ?_)
  · skip
    refine kz_goto (M := kt_M471) kX13_nameAction_c24.2.2.2.2.2.1 (t := 697) rfl ?_
    exact kz_weak [(0, .ref (w_adr E.2.1 12 0)), (2, .int x2)] ⟨rfl, ⟨rfl, trivial⟩⟩ rfl (zt_X13_nameAction_p697 hL  h)
  · skip
    refine kz_aload_n (M := kt_M471) kX13_nameAction_c23.2.2.2.1 rfl ?_
    refine kz_iload_n (M := kt_M471) kX13_nameAction_c23.2.2.2.2.1 rfl ?_
    refine kz_ic (M := kt_M471) 1 kX13_nameAction_c23.2.2.2.2.2.1 rfl ?_
    refine kz_cv0 (M := kt_M471) (c := 12) (o := 0) (As := [.int x3, .int 1]) (rest := []) kX13_nameAction_c23.2.2.2.2.2.2.1 wl_X13_743 wMv_476 rfl (.inl rfl) rfl (Nat.le_trans (Nat.le_of_ble_eq_true rfl) hL) (Nat.le_of_ble_eq_true rfl) (Nat.le_of_ble_eq_true rfl) h (fun w1 hle h => ?_) (fun _ _ _ h => kzx_no rfl h)
    have h := h hle
    refine kz_aload_n (M := kt_M471) kX13_nameAction_c23.2.2.2.2.2.2.2.1 rfl ?_
    refine kz_gfc (M := kt_M471) (x := 4104) (c := 12) (o := 0) kX13_nameAction_c24.1 wf_X13_205 (.inl rfl) ?_
    refine kz_iload_n (M := kt_M471) kX13_nameAction_c24.2.1 rfl ?_
    refine kz_iald (M := kt_M471) (c := 12) (o := 0) (k := 32) (a := (E.2.1 4104)) kX13_nameAction_c24.2.2.1 ow_12_0_32 oa_12_0_32 ot_0 h (fun h => ?_)
    refine kz_sti_n (M := kt_M471) [(0, .ref (w_adr E.2.1 12 0)), (2, .int x2)] kX13_nameAction_c24.2.2.2.1 (Nat.le_of_ble_eq_true rfl) ⟨⟨rfl, rfl, .inl rfl⟩, ⟨⟨rfl, rfl, .inr rfl⟩, trivial⟩⟩ rfl ?_
    refine kz_goto (M := kt_M471) kX13_nameAction_c24.2.2.2.2.1 (t := 380) rfl ?_
    exact kz_weak [(0, .ref (w_adr E.2.1 12 0)), (2, .int x2), (3, .int (w_a w1 12 0 32 (x3).toNatClampNeg))] ⟨rfl, ⟨rfl, ⟨rfl, trivial⟩⟩⟩ rfl h
def zb_X13_nameAction_p373 (E : zE) (L : Nat) (Q : kx_Rs → wS → Prop) (x1 : Int32) (x2 : Int32) (w : wS) : Prop := (kx_inb x1 (w_n w 12 0 28) = true ∧ zL_X13_nameAction_p380 E L Q x2 (w_a w 12 0 28 (x1).toNatClampNeg) w)
theorem zt_X13_nameAction_p373 {E : zE} {L : Nat} {Q : kx_Rs → wS → Prop} {x1 : Int32} {x2 : Int32} {w : wS} (hL : 24 ≤ L) (h : zb_X13_nameAction_p373 E L Q x1 x2 w) : kzE E L kt_M471 373 [(0, .ref (w_adr E.2.1 12 0)), (1, .int x1), (2, .int x2)] [] w Q := by
  unfold zb_X13_nameAction_p373 at h
  refine kz_aload_n (M := kt_M471) kX13_nameAction_c22.2.2.2.2.1 rfl ?_
  refine kz_gfc (M := kt_M471) (x := 4100) (c := 12) (o := 0) kX13_nameAction_c22.2.2.2.2.2.1 wf_X13_193 (.inl rfl) ?_
  refine kz_iload_n (M := kt_M471) kX13_nameAction_c22.2.2.2.2.2.2.1 rfl ?_
  refine kz_iald (M := kt_M471) (c := 12) (o := 0) (k := 28) (a := (E.2.1 4100)) kX13_nameAction_c22.2.2.2.2.2.2.2.1 ow_12_0_28 oa_12_0_28 ot_0 h (fun h => ?_)
  refine kz_sti_n (M := kt_M471) [(0, .ref (w_adr E.2.1 12 0)), (2, .int x2)] kX13_nameAction_c23.1 (Nat.le_of_ble_eq_true rfl) ⟨⟨rfl, rfl, .inl rfl⟩, ⟨⟨rfl, rfl, .inr rfl⟩, trivial⟩⟩ rfl ?_
  exact kz_weak [(0, .ref (w_adr E.2.1 12 0)), (2, .int x2), (3, .int (w_a w 12 0 28 (x1).toNatClampNeg))] ⟨rfl, ⟨rfl, ⟨rfl, trivial⟩⟩⟩ rfl h
def zb_X13_nameAction_p259 (E : zE) (L : Nat) (Q : kx_Rs → wS → Prop) (x2 : Int32) (x3 : Int32) (x4 : Int32) (w : wS) : Prop := (if x4 < 0 then (kx_inb x3 (w_n w 12 0 30) = true ∧ zw E (L - 22) kt_M473 [.ref (w_adr E.2.1 12 0), .int (w_a w 12 0 30 (x3).toNatClampNeg)] w (wk0 (fun w1 => wle w w1 → (kx_inb x3 (w_n w1 12 0 32) = true ∧ zL_X13_nameAction_p188 E L Q x2 (w_a w1 12 0 32 (x3).toNatClampNeg) w1)) (fun e w => Q (.inr e) w))) else zw E (L - 23) kt_M472 [.ref (w_adr E.2.1 12 0), .int x4, .int 1] w (wk0 (fun w3 => wle w w3 → (kx_inb x4 (w_n w3 12 0 32) = true ∧ zL_X13_nameAction_p259 E L Q x2 x3 (w_a w3 12 0 32 (x4).toNatClampNeg) w3)) (fun e w => Q (.inr e) w)))
theorem zt_X13_nameAction_p259 {E : zE} {L : Nat} {Q : kx_Rs → wS → Prop} {x2 : Int32} {x3 : Int32} {x4 : Int32} {w : wS} (hL : 24 ≤ L) (h : zb_X13_nameAction_p259 E L Q x2 x3 x4 w) : kzE E L kt_M471 259 [(0, .ref (w_adr E.2.1 12 0)), (2, .int x2), (3, .int x3), (4, .int x4)] [] w Q := by
  unfold zb_X13_nameAction_p259 at h
  refine kz_iload (M := kt_M471) kX13_nameAction_c14.2.2.2.2.1 rfl ?_
  refine kz_if_lt (M := kt_M471) kX13_nameAction_c14.2.2.2.2.2.1 (t := 283) rfl h (fun h => ?_) (fun h => ?_)
  · skip
    refine kz_aload_n (M := kt_M471) kX13_nameAction_c16.1 rfl ?_
    refine kz_aload_n (M := kt_M471) kX13_nameAction_c16.2.1 rfl ?_
    refine kz_gfc (M := kt_M471) (x := 4102) (c := 12) (o := 0) kX13_nameAction_c16.2.2.1 wf_X13_199 (.inl rfl) ?_
    refine kz_iload_n (M := kt_M471) kX13_nameAction_c16.2.2.2.1 rfl ?_
    refine kz_iald (M := kt_M471) (c := 12) (o := 0) (k := 30) (a := (E.2.1 4102)) kX13_nameAction_c16.2.2.2.2.1 ow_12_0_30 oa_12_0_30 ot_0 h (fun h => ?_)
    refine kz_cv0 (M := kt_M471) (c := 12) (o := 0) (As := [.int (w_a w 12 0 30 (x3).toNatClampNeg)]) (rest := []) kX13_nameAction_c16.2.2.2.2.2.1 wl_X13_772 wMv_473 rfl (.inl rfl) rfl (Nat.le_trans (Nat.le_of_ble_eq_true rfl) hL) (Nat.le_of_ble_eq_true rfl) (Nat.le_of_ble_eq_true rfl) h (fun w1 hle h => ?_) (fun _ _ _ h => kzx_no rfl h)
    have h := h hle
    refine kz_aload_n (M := kt_M471) kX13_nameAction_c16.2.2.2.2.2.2.1 rfl ?_
    refine kz_gfc (M := kt_M471) (x := 4104) (c := 12) (o := 0) kX13_nameAction_c16.2.2.2.2.2.2.2.1 wf_X13_205 (.inl rfl) ?_
    refine kz_iload_n (M := kt_M471) kX13_nameAction_c17.1 rfl ?_
    refine kz_iald (M := kt_M471) (c := 12) (o := 0) (k := 32) (a := (E.2.1 4104)) kX13_nameAction_c17.2.1 ow_12_0_32 oa_12_0_32 ot_0 h (fun h => ?_)
    refine kz_sti_n (M := kt_M471) [(0, .ref (w_adr E.2.1 12 0)), (2, .int x2)] kX13_nameAction_c17.2.2.1 (Nat.le_of_ble_eq_true rfl) ⟨⟨rfl, rfl, .inl rfl⟩, ⟨⟨rfl, rfl, .inr rfl⟩, trivial⟩⟩ rfl ?_
    refine kz_goto (M := kt_M471) kX13_nameAction_c17.2.2.2.1 (t := 188) rfl ?_
    exact kz_weak [(0, .ref (w_adr E.2.1 12 0)), (2, .int x2), (3, .int (w_a w1 12 0 32 (x3).toNatClampNeg))] ⟨rfl, ⟨rfl, ⟨rfl, trivial⟩⟩⟩ rfl h
  · skip
    refine kz_aload_n (M := kt_M471) kX13_nameAction_c14.2.2.2.2.2.2.1 rfl ?_
    refine kz_iload (M := kt_M471) kX13_nameAction_c14.2.2.2.2.2.2.2.1 rfl ?_
    refine kz_ic (M := kt_M471) 1 kX13_nameAction_c15.1 rfl ?_
    refine kz_cv0 (M := kt_M471) (c := 12) (o := 0) (As := [.int x4, .int 1]) (rest := []) kX13_nameAction_c15.2.1 wl_X13_766 wMv_472 rfl (.inl rfl) rfl (Nat.le_trans (Nat.le_of_ble_eq_true rfl) hL) (Nat.le_of_ble_eq_true rfl) (Nat.le_of_ble_eq_true rfl) h (fun w3 hle h => ?_) (fun _ _ _ h => kzx_no rfl h)
    have h := h hle
    refine kz_aload_n (M := kt_M471) kX13_nameAction_c15.2.2.1 rfl ?_
    refine kz_gfc (M := kt_M471) (x := 4104) (c := 12) (o := 0) kX13_nameAction_c15.2.2.2.1 wf_X13_205 (.inl rfl) ?_
    refine kz_iload (M := kt_M471) kX13_nameAction_c15.2.2.2.2.1 rfl ?_
    refine kz_iald (M := kt_M471) (c := 12) (o := 0) (k := 32) (a := (E.2.1 4104)) kX13_nameAction_c15.2.2.2.2.2.1 ow_12_0_32 oa_12_0_32 ot_0 h (fun h => ?_)
    refine kz_sti (M := kt_M471) [(0, .ref (w_adr E.2.1 12 0)), (2, .int x2), (3, .int x3)] kX13_nameAction_c15.2.2.2.2.2.2.1 (Nat.le_of_ble_eq_true rfl) ⟨⟨rfl, rfl, .inl rfl⟩, ⟨⟨rfl, rfl, .inl rfl⟩, ⟨⟨rfl, rfl, .inr rfl⟩, trivial⟩⟩⟩ rfl ?_
    refine kz_goto (M := kt_M471) kX13_nameAction_c15.2.2.2.2.2.2.2.1 (t := 259) rfl ?_
    exact kz_weak [(0, .ref (w_adr E.2.1 12 0)), (2, .int x2), (3, .int x3), (4, .int (w_a w3 12 0 32 (x4).toNatClampNeg))] ⟨rfl, ⟨rfl, ⟨rfl, ⟨rfl, trivial⟩⟩⟩⟩ rfl h
def zb_X13_nameAction_p251 (E : zE) (L : Nat) (Q : kx_Rs → wS → Prop) (x2 : Int32) (x3 : Int32) (w : wS) : Prop := (kx_inb x3 (w_n w 12 0 29) = true ∧ zL_X13_nameAction_p259 E L Q x2 x3 (w_a w 12 0 29 (x3).toNatClampNeg) w)
theorem zt_X13_nameAction_p251 {E : zE} {L : Nat} {Q : kx_Rs → wS → Prop} {x2 : Int32} {x3 : Int32} {w : wS} (hL : 24 ≤ L) (h : zb_X13_nameAction_p251 E L Q x2 x3 w) : kzE E L kt_M471 251 [(0, .ref (w_adr E.2.1 12 0)), (2, .int x2), (3, .int x3)] [] w Q := by
  unfold zb_X13_nameAction_p251 at h
  refine kz_aload_n (M := kt_M471) kX13_nameAction_c13.2.2.2.2.2.2.2.1 rfl ?_
  refine kz_gfc (M := kt_M471) (x := 4101) (c := 12) (o := 0) kX13_nameAction_c14.1 wf_X13_196 (.inl rfl) ?_
  refine kz_iload_n (M := kt_M471) kX13_nameAction_c14.2.1 rfl ?_
  refine kz_iald (M := kt_M471) (c := 12) (o := 0) (k := 29) (a := (E.2.1 4101)) kX13_nameAction_c14.2.2.1 ow_12_0_29 oa_12_0_29 ot_0 h (fun h => ?_)
  refine kz_sti (M := kt_M471) [(0, .ref (w_adr E.2.1 12 0)), (2, .int x2), (3, .int x3)] kX13_nameAction_c14.2.2.2.1 (Nat.le_of_ble_eq_true rfl) ⟨⟨rfl, rfl, .inl rfl⟩, ⟨⟨rfl, rfl, .inl rfl⟩, ⟨⟨rfl, rfl, .inr rfl⟩, trivial⟩⟩⟩ rfl ?_
  exact kz_weak [(0, .ref (w_adr E.2.1 12 0)), (2, .int x2), (3, .int x3), (4, .int (w_a w 12 0 29 (x3).toNatClampNeg))] ⟨rfl, ⟨rfl, ⟨rfl, ⟨rfl, trivial⟩⟩⟩⟩ rfl h
def zb_X13_nameAction_p188 (E : zE) (L : Nat) (Q : kx_Rs → wS → Prop) (x2 : Int32) (x3 : Int32) (w : wS) : Prop := (if x3 < 0 then zb_X13_nameAction_p697 E L Q x2 w else (kx_inb x3 (w_n w 12 0 28) = true ∧ (kx_inb x3 (w_n w 12 0 27) = true ∧ zw E (L - 23) kt_M411 [.ref (w_adr E.2.1 12 0), .int (w_a w 12 0 28 (x3).toNatClampNeg), .int (w_a w 12 0 27 (x3).toNatClampNeg)] w (wk1 (fun v2 w1 => wle w w1 → (kx_inb x3 (w_n w1 12 0 31) = true ∧ (kx_inb x3 (w_n w1 12 0 31) = true ∧ (if w_a (ws_a w1 12 0 31 (x3).toNatClampNeg v2) 12 0 31 (x3).toNatClampNeg < 0 then zb_X13_nameAction_p251 E L Q x2 x3 (ws_a w1 12 0 31 (x3).toNatClampNeg v2) else (kx_inb x3 (w_n w1 12 0 31) = true ∧ (kx_inb (w_a (ws_a w1 12 0 31 (x3).toNatClampNeg v2) 12 0 31 (x3).toNatClampNeg) (w_n w1 12 0 46) = true ∧ (if w_a w1 12 0 46 (w_a (ws_a w1 12 0 31 (x3).toNatClampNeg v2) 12 0 31 (x3).toNatClampNeg).toNatClampNeg = 6 then zb_X13_nameAction_p251 E L Q x2 x3 (ws_a w1 12 0 31 (x3).toNatClampNeg v2) else (kx_inb x3 (w_n w1 12 0 27) = true ∧ zw E (L - 22) kt_M560 [.ref (w_adr E.2.1 12 0), .int 6, .int (w_a w1 12 0 27 (x3).toNatClampNeg)] (ws_a w1 12 0 31 (x3).toNatClampNeg v2) (wk0 (fun w3 => wle (ws_a w1 12 0 31 (x3).toNatClampNeg v2) w3 → zb_X13_nameAction_p251 E L Q x2 x3 w3) (fun e w => Q (.inr e) w)))))))))) (fun e w => Q (.inr e) w)))))
theorem zt_X13_nameAction_p188 {E : zE} {L : Nat} {Q : kx_Rs → wS → Prop} {x2 : Int32} {x3 : Int32} {w : wS} (hL : 24 ≤ L) (h : zb_X13_nameAction_p188 E L Q x2 x3 w) : kzE E L kt_M471 188 [(0, .ref (w_adr E.2.1 12 0)), (2, .int x2), (3, .int x3)] [] w Q := by
  unfold zb_X13_nameAction_p188 at h
  refine kz_iload_n (M := kt_M471) kX13_nameAction_c9.2.2.1 rfl ?_
  refine kz_if_lt (M := kt_M471) kX13_nameAction_c9.2.2.2.1 (t := 303) rfl h (fun h => ?_) (fun h => ?_)
  · skip
    refine kz_goto (M := kt_M471) kX13_nameAction_c17.2.2.2.2.1 (t := 697) rfl ?_
    exact kz_weak [(0, .ref (w_adr E.2.1 12 0)), (2, .int x2)] ⟨rfl, ⟨rfl, trivial⟩⟩ rfl (zt_X13_nameAction_p697 hL  h)
  · skip
    refine kz_aload_n (M := kt_M471) kX13_nameAction_c9.2.2.2.2.1 rfl ?_
    refine kz_gfc (M := kt_M471) (x := 4103) (c := 12) (o := 0) kX13_nameAction_c9.2.2.2.2.2.1 wf_X13_202 (.inl rfl) ?_
    refine kz_iload_n (M := kt_M471) kX13_nameAction_c9.2.2.2.2.2.2.1 rfl ?_
    refine kz_aload_n (M := kt_M471) kX13_nameAction_c9.2.2.2.2.2.2.2.1 rfl ?_
    refine kz_aload_n (M := kt_M471) kX13_nameAction_c10.1 rfl ?_
    refine kz_gfc (M := kt_M471) (x := 4100) (c := 12) (o := 0) kX13_nameAction_c10.2.1 wf_X13_193 (.inl rfl) ?_
    refine kz_iload_n (M := kt_M471) kX13_nameAction_c10.2.2.1 rfl ?_
    refine kz_iald (M := kt_M471) (c := 12) (o := 0) (k := 28) (a := (E.2.1 4100)) kX13_nameAction_c10.2.2.2.1 ow_12_0_28 oa_12_0_28 ot_0 h (fun h => ?_)
    refine kz_aload_n (M := kt_M471) kX13_nameAction_c10.2.2.2.2.1 rfl ?_
    refine kz_gfc (M := kt_M471) (x := 4099) (c := 12) (o := 0) kX13_nameAction_c10.2.2.2.2.2.1 wf_X13_190 (.inl rfl) ?_
    refine kz_iload_n (M := kt_M471) kX13_nameAction_c10.2.2.2.2.2.2.1 rfl ?_
    refine kz_iald (M := kt_M471) (c := 12) (o := 0) (k := 27) (a := (E.2.1 4099)) kX13_nameAction_c10.2.2.2.2.2.2.2.1 ow_12_0_27 oa_12_0_27 ot_0 h (fun h => ?_)
    refine kz_cv1 (M := kt_M471) (c := 12) (o := 0) (As := [.int (w_a w 12 0 28 (x3).toNatClampNeg), .int (w_a w 12 0 27 (x3).toNatClampNeg)]) (rest := [.int x3, .ref (E.2.1 4103)]) kX13_nameAction_c11.1 wl_X13_740 wMv_411 rfl (.inl rfl) rfl (Nat.le_trans (Nat.le_of_ble_eq_true rfl) hL) (Nat.le_of_ble_eq_true rfl) (Nat.le_of_ble_eq_true rfl) h (fun v2 w1 hle h => ?_) (fun _ _ _ h => kzx_no rfl h)
    have h := h hle
    refine kz_iast (M := kt_M471) (c := 12) (o := 0) (k := 31) (a := (E.2.1 4103)) kX13_nameAction_c11.2.1 ow_12_0_31 oa_12_0_31 ot_0 h (fun h => ?_)
    refine kz_aload_n (M := kt_M471) kX13_nameAction_c11.2.2.1 rfl ?_
    refine kz_gfc (M := kt_M471) (x := 4103) (c := 12) (o := 0) kX13_nameAction_c11.2.2.2.1 wf_X13_202 (.inl rfl) ?_
    refine kz_iload_n (M := kt_M471) kX13_nameAction_c11.2.2.2.2.1 rfl ?_
    refine kz_ialdR (M := kt_M471) (n := w_n w1 12 0 31) (c := 12) (o := 0) (k := 31) (a := (E.2.1 4103)) (w_a (ws_a w1 12 0 31 (x3).toNatClampNeg v2) 12 0 31 (x3).toNatClampNeg) kX13_nameAction_c11.2.2.2.2.2.1 ow_12_0_31 oa_12_0_31 ot_0 rd_n_a rfl h (fun h => ?_)
    refine kz_if_lt (M := kt_M471) kX13_nameAction_c11.2.2.2.2.2.2.1 (t := 251) rfl h (fun h => ?_) (fun h => ?_)
    · skip
      exact kz_weak [(0, .ref (w_adr E.2.1 12 0)), (2, .int x2), (3, .int x3)] ⟨rfl, ⟨rfl, ⟨rfl, trivial⟩⟩⟩ rfl (zt_X13_nameAction_p251 hL  h)
    · skip
      refine kz_aload_n (M := kt_M471) kX13_nameAction_c11.2.2.2.2.2.2.2.1 rfl ?_
      refine kz_gfc (M := kt_M471) (x := 4118) (c := 12) (o := 0) kX13_nameAction_c12.1 wf_X13_223 (.inl rfl) ?_
      refine kz_aload_n (M := kt_M471) kX13_nameAction_c12.2.1 rfl ?_
      refine kz_gfc (M := kt_M471) (x := 4103) (c := 12) (o := 0) kX13_nameAction_c12.2.2.1 wf_X13_202 (.inl rfl) ?_
      refine kz_iload_n (M := kt_M471) kX13_nameAction_c12.2.2.2.1 rfl ?_
      refine kz_ialdR (M := kt_M471) (n := w_n w1 12 0 31) (c := 12) (o := 0) (k := 31) (a := (E.2.1 4103)) (w_a (ws_a w1 12 0 31 (x3).toNatClampNeg v2) 12 0 31 (x3).toNatClampNeg) kX13_nameAction_c12.2.2.2.2.1 ow_12_0_31 oa_12_0_31 ot_0 rd_n_a rfl h (fun h => ?_)
      refine kz_ialdR (M := kt_M471) (n := w_n w1 12 0 46) (c := 12) (o := 0) (k := 46) (a := (E.2.1 4118)) (w_a w1 12 0 46 (w_a (ws_a w1 12 0 31 (x3).toNatClampNeg v2) 12 0 31 (x3).toNatClampNeg).toNatClampNeg) kX13_nameAction_c12.2.2.2.2.2.1 ow_12_0_46 oa_12_0_46 ot_0 rd_n_a (rd_a_a rfl) h (fun h => ?_)
      refine kz_bi (M := kt_M471) 6 kX13_nameAction_c12.2.2.2.2.2.2.1 rfl ?_
      refine kz_icmp_eq (M := kt_M471) kX13_nameAction_c12.2.2.2.2.2.2.2.1 (t := 251) rfl h (fun h => ?_) (fun h => ?_)
      · skip
        exact kz_weak [(0, .ref (w_adr E.2.1 12 0)), (2, .int x2), (3, .int x3)] ⟨rfl, ⟨rfl, ⟨rfl, trivial⟩⟩⟩ rfl (zt_X13_nameAction_p251 hL  h)
      · skip
        refine kz_aload_n (M := kt_M471) kX13_nameAction_c13.1 rfl ?_
        refine kz_bi (M := kt_M471) 6 kX13_nameAction_c13.2.1 rfl ?_
        refine kz_aload_n (M := kt_M471) kX13_nameAction_c13.2.2.1 rfl ?_
        refine kz_gfc (M := kt_M471) (x := 4099) (c := 12) (o := 0) kX13_nameAction_c13.2.2.2.1 wf_X13_190 (.inl rfl) ?_
        refine kz_iload_n (M := kt_M471) kX13_nameAction_c13.2.2.2.2.1 rfl ?_
        refine kz_ialdR (M := kt_M471) (n := w_n w1 12 0 27) (c := 12) (o := 0) (k := 27) (a := (E.2.1 4099)) (w_a w1 12 0 27 (x3).toNatClampNeg) kX13_nameAction_c13.2.2.2.2.2.1 ow_12_0_27 oa_12_0_27 ot_0 rd_n_a (rd_a_a rfl) h (fun h => ?_)
        refine kz_cv0 (M := kt_M471) (c := 12) (o := 0) (As := [.int 6, .int (w_a w1 12 0 27 (x3).toNatClampNeg)]) (rest := []) kX13_nameAction_c13.2.2.2.2.2.2.1 wl_X13_734 wMv_560 rfl (.inl rfl) rfl (Nat.le_trans (Nat.le_of_ble_eq_true rfl) hL) (Nat.le_of_ble_eq_true rfl) (Nat.le_of_ble_eq_true rfl) h (fun w3 hle h => ?_) (fun _ _ _ h => kzx_no rfl h)
        have h := h hle
        exact kz_weak [(0, .ref (w_adr E.2.1 12 0)), (2, .int x2), (3, .int x3)] ⟨rfl, ⟨rfl, ⟨rfl, trivial⟩⟩⟩ rfl (zt_X13_nameAction_p251 hL  h)
def zb_X13_nameAction_p114 (E : zE) (L : Nat) (Q : kx_Rs → wS → Prop) (x2 : Int32) (x3 : Int32) (w : wS) : Prop := (if x3 < 0 then zb_X13_nameAction_p697 E L Q x2 w else zw E (L - 24) kt_M476 [.ref (w_adr E.2.1 12 0), .int x3, .int 0] w (wk0 (fun w1 => wle w w1 → (kx_inb x3 (w_n w1 12 0 32) = true ∧ zL_X13_nameAction_p114 E L Q x2 (w_a w1 12 0 32 (x3).toNatClampNeg) w1)) (fun e w => Q (.inr e) w)))
theorem zt_X13_nameAction_p114 {E : zE} {L : Nat} {Q : kx_Rs → wS → Prop} {x2 : Int32} {x3 : Int32} {w : wS} (hL : 24 ≤ L) (h : zb_X13_nameAction_p114 E L Q x2 x3 w) : kzE E L kt_M471 114 [(0, .ref (w_adr E.2.1 12 0)), (2, .int x2), (3, .int x3)] [] w Q := by
  unfold zb_X13_nameAction_p114 at h
  refine kz_iload_n (M := kt_M471) kX13_nameAction_c3.2.2.2.2.2.2.1 rfl ?_
  refine kz_if_lt (M := kt_M471) kX13_nameAction_c3.2.2.2.2.2.2.2.1 (t := 134) rfl h (fun h => ?_) (fun h => ?_)
  · skip
    refine kz_goto (M := kt_M471) kX13_nameAction_c5.2.2.1 (t := 697) rfl ?_
    exact kz_weak [(0, .ref (w_adr E.2.1 12 0)), (2, .int x2)] ⟨rfl, ⟨rfl, trivial⟩⟩ rfl (zt_X13_nameAction_p697 hL  h)
  · skip
    refine kz_aload_n (M := kt_M471) kX13_nameAction_c4.1 rfl ?_
    refine kz_iload_n (M := kt_M471) kX13_nameAction_c4.2.1 rfl ?_
    refine kz_ic (M := kt_M471) 0 kX13_nameAction_c4.2.2.1 rfl ?_
    refine kz_cv0 (M := kt_M471) (c := 12) (o := 0) (As := [.int x3, .int 0]) (rest := []) kX13_nameAction_c4.2.2.2.1 wl_X13_743 wMv_476 rfl (.inl rfl) rfl (Nat.le_trans (Nat.le_of_ble_eq_true rfl) hL) (Nat.le_of_ble_eq_true rfl) (Nat.le_of_ble_eq_true rfl) h (fun w1 hle h => ?_) (fun _ _ _ h => kzx_no rfl h)
    have h := h hle
    refine kz_aload_n (M := kt_M471) kX13_nameAction_c4.2.2.2.2.1 rfl ?_
    refine kz_gfc (M := kt_M471) (x := 4104) (c := 12) (o := 0) kX13_nameAction_c4.2.2.2.2.2.1 wf_X13_205 (.inl rfl) ?_
    refine kz_iload_n (M := kt_M471) kX13_nameAction_c4.2.2.2.2.2.2.1 rfl ?_
    refine kz_iald (M := kt_M471) (c := 12) (o := 0) (k := 32) (a := (E.2.1 4104)) kX13_nameAction_c4.2.2.2.2.2.2.2.1 ow_12_0_32 oa_12_0_32 ot_0 h (fun h => ?_)
    refine kz_sti_n (M := kt_M471) [(0, .ref (w_adr E.2.1 12 0)), (2, .int x2)] kX13_nameAction_c5.1 (Nat.le_of_ble_eq_true rfl) ⟨⟨rfl, rfl, .inl rfl⟩, ⟨⟨rfl, rfl, .inr rfl⟩, trivial⟩⟩ rfl ?_
    refine kz_goto (M := kt_M471) kX13_nameAction_c5.2.1 (t := 114) rfl ?_
    exact kz_weak [(0, .ref (w_adr E.2.1 12 0)), (2, .int x2), (3, .int (w_a w1 12 0 32 (x3).toNatClampNeg))] ⟨rfl, ⟨rfl, ⟨rfl, trivial⟩⟩⟩ rfl h
def zb_X13_nameAction_p87 (E : zE) (L : Nat) (Q : kx_Rs → wS → Prop) (x1 : Int32) (x2 : Int32) (x3 : Int32) (w : wS) : Prop := (if x3 < 0 then (kx_inb x1 (w_n w 12 0 29) = true ∧ zL_X13_nameAction_p114 E L Q x2 (w_a w 12 0 29 (x1).toNatClampNeg) w) else zw E (L - 23) kt_M472 [.ref (w_adr E.2.1 12 0), .int x3, .int 1] w (wk0 (fun w1 => wle w w1 → (kx_inb x3 (w_n w1 12 0 32) = true ∧ zL_X13_nameAction_p87 E L Q x1 x2 (w_a w1 12 0 32 (x3).toNatClampNeg) w1)) (fun e w => Q (.inr e) w)))
theorem zt_X13_nameAction_p87 {E : zE} {L : Nat} {Q : kx_Rs → wS → Prop} {x1 : Int32} {x2 : Int32} {x3 : Int32} {w : wS} (hL : 24 ≤ L) (h : zb_X13_nameAction_p87 E L Q x1 x2 x3 w) : kzE E L kt_M471 87 [(0, .ref (w_adr E.2.1 12 0)), (1, .int x1), (2, .int x2), (3, .int x3)] [] w Q := by
  unfold zb_X13_nameAction_p87 at h
  refine kz_iload_n (M := kt_M471) kX13_nameAction_c1.2.2.2.2.2.1 rfl ?_
  refine kz_if_lt (M := kt_M471) kX13_nameAction_c1.2.2.2.2.2.2.1 (t := 107) rfl h (fun h => ?_) (fun h => ?_)
  · skip
    refine kz_aload_n (M := kt_M471) kX13_nameAction_c3.2.1 rfl ?_
    refine kz_gfc (M := kt_M471) (x := 4101) (c := 12) (o := 0) kX13_nameAction_c3.2.2.1 wf_X13_196 (.inl rfl) ?_
    refine kz_iload_n (M := kt_M471) kX13_nameAction_c3.2.2.2.1 rfl ?_
    refine kz_iald (M := kt_M471) (c := 12) (o := 0) (k := 29) (a := (E.2.1 4101)) kX13_nameAction_c3.2.2.2.2.1 ow_12_0_29 oa_12_0_29 ot_0 h (fun h => ?_)
    refine kz_sti_n (M := kt_M471) [(0, .ref (w_adr E.2.1 12 0)), (2, .int x2)] kX13_nameAction_c3.2.2.2.2.2.1 (Nat.le_of_ble_eq_true rfl) ⟨⟨rfl, rfl, .inl rfl⟩, ⟨⟨rfl, rfl, .inr rfl⟩, trivial⟩⟩ rfl ?_
    exact kz_weak [(0, .ref (w_adr E.2.1 12 0)), (2, .int x2), (3, .int (w_a w 12 0 29 (x1).toNatClampNeg))] ⟨rfl, ⟨rfl, ⟨rfl, trivial⟩⟩⟩ rfl h
  · skip
    refine kz_aload_n (M := kt_M471) kX13_nameAction_c1.2.2.2.2.2.2.2.1 rfl ?_
    refine kz_iload_n (M := kt_M471) kX13_nameAction_c2.1 rfl ?_
    refine kz_ic (M := kt_M471) 1 kX13_nameAction_c2.2.1 rfl ?_
    refine kz_cv0 (M := kt_M471) (c := 12) (o := 0) (As := [.int x3, .int 1]) (rest := []) kX13_nameAction_c2.2.2.1 wl_X13_766 wMv_472 rfl (.inl rfl) rfl (Nat.le_trans (Nat.le_of_ble_eq_true rfl) hL) (Nat.le_of_ble_eq_true rfl) (Nat.le_of_ble_eq_true rfl) h (fun w1 hle h => ?_) (fun _ _ _ h => kzx_no rfl h)
    have h := h hle
    refine kz_aload_n (M := kt_M471) kX13_nameAction_c2.2.2.2.1 rfl ?_
    refine kz_gfc (M := kt_M471) (x := 4104) (c := 12) (o := 0) kX13_nameAction_c2.2.2.2.2.1 wf_X13_205 (.inl rfl) ?_
    refine kz_iload_n (M := kt_M471) kX13_nameAction_c2.2.2.2.2.2.1 rfl ?_
    refine kz_iald (M := kt_M471) (c := 12) (o := 0) (k := 32) (a := (E.2.1 4104)) kX13_nameAction_c2.2.2.2.2.2.2.1 ow_12_0_32 oa_12_0_32 ot_0 h (fun h => ?_)
    refine kz_sti_n (M := kt_M471) [(0, .ref (w_adr E.2.1 12 0)), (1, .int x1), (2, .int x2)] kX13_nameAction_c2.2.2.2.2.2.2.2.1 (Nat.le_of_ble_eq_true rfl) ⟨⟨rfl, rfl, .inl rfl⟩, ⟨⟨rfl, rfl, .inl rfl⟩, ⟨⟨rfl, rfl, .inr rfl⟩, trivial⟩⟩⟩ rfl ?_
    refine kz_goto (M := kt_M471) kX13_nameAction_c3.1 (t := 87) rfl ?_
    exact kz_weak [(0, .ref (w_adr E.2.1 12 0)), (1, .int x1), (2, .int x2), (3, .int (w_a w1 12 0 32 (x3).toNatClampNeg))] ⟨rfl, ⟨rfl, ⟨rfl, ⟨rfl, trivial⟩⟩⟩⟩ rfl h
def zb_X13_nameAction_p0 (E : zE) (L : Nat) (Q : kx_Rs → wS → Prop) (x1 : Int32) (w : wS) : Prop := (kx_inb x1 (w_n w 12 0 26) = true ∧ (if w_a w 12 0 26 (x1).toNatClampNeg = 4 then (kx_inb x1 (w_n w 12 0 28) = true ∧ zL_X13_nameAction_p87 E L Q x1 (w_i w 12 0 56) (w_a w 12 0 28 (x1).toNatClampNeg) w) else (if w_a w 12 0 26 (x1).toNatClampNeg = 5 then zw E (L - 24) kt_M479 [.ref (w_adr E.2.1 12 0), .int x1] w (wk0 (fun w1 => wle w w1 → zb_X13_nameAction_p697 E L Q (w_i w 12 0 56) w1) (fun e w => Q (.inr e) w)) else (if w_a w 12 0 26 (x1).toNatClampNeg = 6 then (kx_inb x1 (w_n w 12 0 28) = true ∧ zw E (L - 23) kt_M472 [.ref (w_adr E.2.1 12 0), .int (w_a w 12 0 28 (x1).toNatClampNeg), .int 4] w (wk0 (fun w3 => wle w w3 → (kx_inb x1 (w_n w3 12 0 29) = true ∧ zw E (L - 24) kt_M476 [.ref (w_adr E.2.1 12 0), .int (w_a w3 12 0 29 (x1).toNatClampNeg), .int 0] w3 (wk0 (fun w5 => wle w3 w5 → zb_X13_nameAction_p697 E L Q (w_i w 12 0 56) w5) (fun e w => Q (.inr e) w)))) (fun e w => Q (.inr e) w))) else (if w_a w 12 0 26 (x1).toNatClampNeg = 7 then (kx_inb x1 (w_n w 12 0 28) = true ∧ zw E (L - 23) kt_M472 [.ref (w_adr E.2.1 12 0), .int (w_a w 12 0 28 (x1).toNatClampNeg), .int 3] w (wk0 (fun w7 => wle w w7 → (kx_inb x1 (w_n w7 12 0 29) = true ∧ zL_X13_nameAction_p188 E L Q (w_i w 12 0 56) (w_a w7 12 0 29 (x1).toNatClampNeg) w7)) (fun e w => Q (.inr e) w))) else (if w_a w 12 0 26 (x1).toNatClampNeg = 8 then zw E (L - 22) kt_M481 [.ref (w_adr E.2.1 12 0), .int x1] w (wk0 (fun w9 => wle w w9 → zb_X13_nameAction_p697 E L Q (w_i w 12 0 56) w9) (fun e w => Q (.inr e) w)) else (if w_a w 12 0 26 (x1).toNatClampNeg = 9 then (kx_inb x1 (w_n w 12 0 30) = true ∧ (kx_inb x1 (w_n w 12 0 27) = true ∧ zw E (L - 23) kt_M411 [.ref (w_adr E.2.1 12 0), .int (w_a w 12 0 30 (x1).toNatClampNeg), .int (w_a w 12 0 27 (x1).toNatClampNeg)] w (wk1 (fun v12 w11 => wle w w11 → (kx_inb x1 (w_n w11 12 0 31) = true ∧ (kx_inb x1 (w_n w11 12 0 31) = true ∧ (if w_a (ws_a w11 12 0 31 (x1).toNatClampNeg v12) 12 0 31 (x1).toNatClampNeg < 0 then zb_X13_nameAction_p373 E L Q x1 (w_i w 12 0 56) (ws_a w11 12 0 31 (x1).toNatClampNeg v12) else (kx_inb x1 (w_n w11 12 0 31) = true ∧ (kx_inb (w_a (ws_a w11 12 0 31 (x1).toNatClampNeg v12) 12 0 31 (x1).toNatClampNeg) (w_n w11 12 0 46) = true ∧ (if w_a w11 12 0 46 (w_a (ws_a w11 12 0 31 (x1).toNatClampNeg v12) 12 0 31 (x1).toNatClampNeg).toNatClampNeg = 7 then zb_X13_nameAction_p373 E L Q x1 (w_i w 12 0 56) (ws_a w11 12 0 31 (x1).toNatClampNeg v12) else (kx_inb x1 (w_n w11 12 0 27) = true ∧ zw E (L - 22) kt_M560 [.ref (w_adr E.2.1 12 0), .int 6, .int (w_a w11 12 0 27 (x1).toNatClampNeg)] (ws_a w11 12 0 31 (x1).toNatClampNeg v12) (wk0 (fun w13 => wle (ws_a w11 12 0 31 (x1).toNatClampNeg v12) w13 → zb_X13_nameAction_p373 E L Q x1 (w_i w 12 0 56) w13) (fun e w => Q (.inr e) w)))))))))) (fun e w => Q (.inr e) w)))) else (if w_a w 12 0 26 (x1).toNatClampNeg = 10 then (kx_inb x1 (w_n w 12 0 28) = true ∧ (if w_a w 12 0 28 (x1).toNatClampNeg < 0 then zb_X13_nameAction_p422 E L Q x1 (w_i w 12 0 56) w else (kx_inb x1 (w_n w 12 0 28) = true ∧ zw E (L - 21) kt_M484 [.ref (w_adr E.2.1 12 0), .int (w_a w 12 0 28 (x1).toNatClampNeg)] w (wk0 (fun w15 => wle w w15 → zb_X13_nameAction_p422 E L Q x1 (w_i w 12 0 56) w15) (fun e w => Q (.inr e) w))))) else (if w_a w 12 0 26 (x1).toNatClampNeg = 11 then zw E (L - 23) kt_M482 [.ref (w_adr E.2.1 12 0), .int x1] w (wk0 (fun w17 => wle w w17 → zb_X13_nameAction_p697 E L Q (w_i w 12 0 56) w17) (fun e w => Q (.inr e) w)) else (if w_a w 12 0 26 (x1).toNatClampNeg = 12 then (kx_inb x1 (w_n w 12 0 29) = true ∧ zL_X13_nameAction_p466 E L Q (w_i w 12 0 56) (w_a w 12 0 29 (x1).toNatClampNeg) w) else (if w_a w 12 0 26 (x1).toNatClampNeg = 14 then (kx_inb x1 (w_n w 12 0 28) = true ∧ zw E (L - 24) kt_M476 [.ref (w_adr E.2.1 12 0), .int (w_a w 12 0 28 (x1).toNatClampNeg), .int 0] w (wk0 (fun w19 => wle w w19 → (kx_inb x1 (w_n w19 12 0 29) = true ∧ zL_X13_nameAction_p522 E L Q (w_i w 12 0 56) (w_a w19 12 0 29 (x1).toNatClampNeg) w19)) (fun e w => Q (.inr e) w))) else (if w_a w 12 0 26 (x1).toNatClampNeg = 16 then (kx_inb x1 (w_n w 12 0 28) = true ∧ zw E (L - 24) kt_M476 [.ref (w_adr E.2.1 12 0), .int (w_a w 12 0 28 (x1).toNatClampNeg), .int 0] w (wk0 (fun w21 => wle w w21 → (kx_inb x1 (w_n w21 12 0 29) = true ∧ zw E (L - 22) kt_M473 [.ref (w_adr E.2.1 12 0), .int (w_a w21 12 0 29 (x1).toNatClampNeg)] w21 (wk0 (fun w23 => wle w21 w23 → zb_X13_nameAction_p697 E L Q (w_i w 12 0 56) w23) (fun e w => Q (.inr e) w)))) (fun e w => Q (.inr e) w))) else (if w_a w 12 0 26 (x1).toNatClampNeg = 17 then (kx_inb x1 (w_n w 12 0 28) = true ∧ (if w_a w 12 0 28 (x1).toNatClampNeg < 0 then zb_X13_nameAction_p624 E L Q x1 (w_i w 12 0 56) w else (kx_inb x1 (w_n w 12 0 28) = true ∧ zw E (L - 21) kt_M484 [.ref (w_adr E.2.1 12 0), .int (w_a w 12 0 28 (x1).toNatClampNeg)] w (wk0 (fun w25 => wle w w25 → zb_X13_nameAction_p624 E L Q x1 (w_i w 12 0 56) w25) (fun e w => Q (.inr e) w))))) else zb_X13_nameAction_p697 E L Q (w_i w 12 0 56) w)))))))))))))
theorem zt_X13_nameAction_p0 {E : zE} {L : Nat} {Q : kx_Rs → wS → Prop} {x1 : Int32} {w : wS} (hL : 24 ≤ L) (h : zb_X13_nameAction_p0 E L Q x1 w) : kzE E L kt_M471 0 [(0, .ref (w_adr E.2.1 12 0)), (1, .int x1)] [] w Q := by
  unfold zb_X13_nameAction_p0 at h
  refine kz_aload_n (M := kt_M471) kX13_nameAction_c0.1 rfl ?_
  refine kz_gfi (M := kt_M471) (c := 12) (o := 0) kX13_nameAction_c0.2.1 wf_X13_728 (.inl rfl) ?_
  refine kz_sti_n (M := kt_M471) [(0, .ref (w_adr E.2.1 12 0)), (1, .int x1)] kX13_nameAction_c0.2.2.1 (Nat.le_of_ble_eq_true rfl) ⟨⟨rfl, rfl, .inl rfl⟩, ⟨⟨rfl, rfl, .inr rfl⟩, trivial⟩⟩ rfl ?_
  refine kz_aload_n (M := kt_M471) kX13_nameAction_c0.2.2.2.1 rfl ?_
  refine kz_gfc (M := kt_M471) (x := 4098) (c := 12) (o := 0) kX13_nameAction_c0.2.2.2.2.1 wf_X13_187 (.inl rfl) ?_
  refine kz_iload_n (M := kt_M471) kX13_nameAction_c0.2.2.2.2.2.1 rfl ?_
  refine kz_iald (M := kt_M471) (c := 12) (o := 0) (k := 26) (a := (E.2.1 4098)) kX13_nameAction_c0.2.2.2.2.2.2.1 ow_12_0_26 oa_12_0_26 ot_0 h (fun h => ?_)
  refine kz_tsw (M := kt_M471) [(4, 80), (5, 137), (6, 145), (7, 170), (8, 306), (9, 314), (10, 403), (11, 451), (12, 459), (14, 504), (16, 581), (17, 605)] [_, _, _, _, _, _, _, _, _, _, _, _] 697 dX13_nameAction_p11 (by decide +kernel) h ⟨fun h => ?_, fun h => ?_, fun h => ?_, fun h => ?_, fun h => ?_, fun h => ?_, fun h => ?_, fun h => ?_, fun h => ?_, fun h => ?_, fun h => ?_, fun h => ?_, trivial⟩ (fun h => ?_)
  · skip
    refine kz_aload_n (M := kt_M471) kX13_nameAction_c1.1 rfl ?_
    refine kz_gfc (M := kt_M471) (x := 4100) (c := 12) (o := 0) kX13_nameAction_c1.2.1 wf_X13_193 (.inl rfl) ?_
    refine kz_iload_n (M := kt_M471) kX13_nameAction_c1.2.2.1 rfl ?_
    refine kz_iald (M := kt_M471) (c := 12) (o := 0) (k := 28) (a := (E.2.1 4100)) kX13_nameAction_c1.2.2.2.1 ow_12_0_28 oa_12_0_28 ot_0 h (fun h => ?_)
    refine kz_sti_n (M := kt_M471) [(0, .ref (w_adr E.2.1 12 0)), (1, .int x1), (2, .int (w_i w 12 0 56))] kX13_nameAction_c1.2.2.2.2.1 (Nat.le_of_ble_eq_true rfl) ⟨⟨rfl, rfl, .inl rfl⟩, ⟨⟨rfl, rfl, .inl rfl⟩, ⟨⟨rfl, rfl, .inr rfl⟩, trivial⟩⟩⟩ rfl ?_
    exact kz_weak [(0, .ref (w_adr E.2.1 12 0)), (1, .int x1), (2, .int (w_i w 12 0 56)), (3, .int (w_a w 12 0 28 (x1).toNatClampNeg))] ⟨rfl, ⟨rfl, ⟨rfl, ⟨rfl, trivial⟩⟩⟩⟩ rfl h
  · skip
    refine kz_aload_n (M := kt_M471) kX13_nameAction_c5.2.2.2.1 rfl ?_
    refine kz_iload_n (M := kt_M471) kX13_nameAction_c5.2.2.2.2.1 rfl ?_
    refine kz_cv0 (M := kt_M471) (c := 12) (o := 0) (As := [.int x1]) (rest := []) kX13_nameAction_c5.2.2.2.2.2.1 wl_X13_769 wMv_479 rfl (.inl rfl) rfl (Nat.le_trans (Nat.le_of_ble_eq_true rfl) hL) (Nat.le_of_ble_eq_true rfl) (Nat.le_of_ble_eq_true rfl) h (fun w1 hle h => ?_) (fun _ _ _ h => kzx_no rfl h)
    have h := h hle
    refine kz_goto (M := kt_M471) kX13_nameAction_c5.2.2.2.2.2.2.1 (t := 697) rfl ?_
    exact kz_weak [(0, .ref (w_adr E.2.1 12 0)), (2, .int (w_i w 12 0 56))] ⟨rfl, ⟨rfl, trivial⟩⟩ rfl (zt_X13_nameAction_p697 hL  h)
  · skip
    refine kz_aload_n (M := kt_M471) kX13_nameAction_c5.2.2.2.2.2.2.2.1 rfl ?_
    refine kz_aload_n (M := kt_M471) kX13_nameAction_c6.1 rfl ?_
    refine kz_gfc (M := kt_M471) (x := 4100) (c := 12) (o := 0) kX13_nameAction_c6.2.1 wf_X13_193 (.inl rfl) ?_
    refine kz_iload_n (M := kt_M471) kX13_nameAction_c6.2.2.1 rfl ?_
    refine kz_iald (M := kt_M471) (c := 12) (o := 0) (k := 28) (a := (E.2.1 4100)) kX13_nameAction_c6.2.2.2.1 ow_12_0_28 oa_12_0_28 ot_0 h (fun h => ?_)
    refine kz_ic (M := kt_M471) 4 kX13_nameAction_c6.2.2.2.2.1 rfl ?_
    refine kz_cv0 (M := kt_M471) (c := 12) (o := 0) (As := [.int (w_a w 12 0 28 (x1).toNatClampNeg), .int 4]) (rest := []) kX13_nameAction_c6.2.2.2.2.2.1 wl_X13_766 wMv_472 rfl (.inl rfl) rfl (Nat.le_trans (Nat.le_of_ble_eq_true rfl) hL) (Nat.le_of_ble_eq_true rfl) (Nat.le_of_ble_eq_true rfl) h (fun w3 hle h => ?_) (fun _ _ _ h => kzx_no rfl h)
    have h := h hle
    refine kz_aload_n (M := kt_M471) kX13_nameAction_c6.2.2.2.2.2.2.1 rfl ?_
    refine kz_aload_n (M := kt_M471) kX13_nameAction_c6.2.2.2.2.2.2.2.1 rfl ?_
    refine kz_gfc (M := kt_M471) (x := 4101) (c := 12) (o := 0) kX13_nameAction_c7.1 wf_X13_196 (.inl rfl) ?_
    refine kz_iload_n (M := kt_M471) kX13_nameAction_c7.2.1 rfl ?_
    refine kz_iald (M := kt_M471) (c := 12) (o := 0) (k := 29) (a := (E.2.1 4101)) kX13_nameAction_c7.2.2.1 ow_12_0_29 oa_12_0_29 ot_0 h (fun h => ?_)
    refine kz_ic (M := kt_M471) 0 kX13_nameAction_c7.2.2.2.1 rfl ?_
    refine kz_cv0 (M := kt_M471) (c := 12) (o := 0) (As := [.int (w_a w3 12 0 29 (x1).toNatClampNeg), .int 0]) (rest := []) kX13_nameAction_c7.2.2.2.2.1 wl_X13_743 wMv_476 rfl (.inl rfl) rfl (Nat.le_trans (Nat.le_of_ble_eq_true rfl) hL) (Nat.le_of_ble_eq_true rfl) (Nat.le_of_ble_eq_true rfl) h (fun w5 hle h => ?_) (fun _ _ _ h => kzx_no rfl h)
    have h := h hle
    refine kz_goto (M := kt_M471) kX13_nameAction_c7.2.2.2.2.2.1 (t := 697) rfl ?_
    exact kz_weak [(0, .ref (w_adr E.2.1 12 0)), (2, .int (w_i w 12 0 56))] ⟨rfl, ⟨rfl, trivial⟩⟩ rfl (zt_X13_nameAction_p697 hL  h)
  · skip
    refine kz_aload_n (M := kt_M471) kX13_nameAction_c7.2.2.2.2.2.2.1 rfl ?_
    refine kz_aload_n (M := kt_M471) kX13_nameAction_c7.2.2.2.2.2.2.2.1 rfl ?_
    refine kz_gfc (M := kt_M471) (x := 4100) (c := 12) (o := 0) kX13_nameAction_c8.1 wf_X13_193 (.inl rfl) ?_
    refine kz_iload_n (M := kt_M471) kX13_nameAction_c8.2.1 rfl ?_
    refine kz_iald (M := kt_M471) (c := 12) (o := 0) (k := 28) (a := (E.2.1 4100)) kX13_nameAction_c8.2.2.1 ow_12_0_28 oa_12_0_28 ot_0 h (fun h => ?_)
    refine kz_ic (M := kt_M471) 3 kX13_nameAction_c8.2.2.2.1 rfl ?_
    refine kz_cv0 (M := kt_M471) (c := 12) (o := 0) (As := [.int (w_a w 12 0 28 (x1).toNatClampNeg), .int 3]) (rest := []) kX13_nameAction_c8.2.2.2.2.1 wl_X13_766 wMv_472 rfl (.inl rfl) rfl (Nat.le_trans (Nat.le_of_ble_eq_true rfl) hL) (Nat.le_of_ble_eq_true rfl) (Nat.le_of_ble_eq_true rfl) h (fun w7 hle h => ?_) (fun _ _ _ h => kzx_no rfl h)
    have h := h hle
    refine kz_aload_n (M := kt_M471) kX13_nameAction_c8.2.2.2.2.2.1 rfl ?_
    refine kz_gfc (M := kt_M471) (x := 4101) (c := 12) (o := 0) kX13_nameAction_c8.2.2.2.2.2.2.1 wf_X13_196 (.inl rfl) ?_
    refine kz_iload_n (M := kt_M471) kX13_nameAction_c8.2.2.2.2.2.2.2.1 rfl ?_
    refine kz_iald (M := kt_M471) (c := 12) (o := 0) (k := 29) (a := (E.2.1 4101)) kX13_nameAction_c9.1 ow_12_0_29 oa_12_0_29 ot_0 h (fun h => ?_)
    refine kz_sti_n (M := kt_M471) [(0, .ref (w_adr E.2.1 12 0)), (2, .int (w_i w 12 0 56))] kX13_nameAction_c9.2.1 (Nat.le_of_ble_eq_true rfl) ⟨⟨rfl, rfl, .inl rfl⟩, ⟨⟨rfl, rfl, .inr rfl⟩, trivial⟩⟩ rfl ?_
    exact kz_weak [(0, .ref (w_adr E.2.1 12 0)), (2, .int (w_i w 12 0 56)), (3, .int (w_a w7 12 0 29 (x1).toNatClampNeg))] ⟨rfl, ⟨rfl, ⟨rfl, trivial⟩⟩⟩ rfl h
  · skip
    refine kz_aload_n (M := kt_M471) kX13_nameAction_c17.2.2.2.2.2.1 rfl ?_
    refine kz_iload_n (M := kt_M471) kX13_nameAction_c17.2.2.2.2.2.2.1 rfl ?_
    refine kz_cv0 (M := kt_M471) (c := 12) (o := 0) (As := [.int x1]) (rest := []) kX13_nameAction_c17.2.2.2.2.2.2.2.1 wl_X13_775 wMv_481 rfl (.inl rfl) rfl (Nat.le_trans (Nat.le_of_ble_eq_true rfl) hL) (Nat.le_of_ble_eq_true rfl) (Nat.le_of_ble_eq_true rfl) h (fun w9 hle h => ?_) (fun _ _ _ h => kzx_no rfl h)
    have h := h hle
    refine kz_goto (M := kt_M471) kX13_nameAction_c18.1 (t := 697) rfl ?_
    exact kz_weak [(0, .ref (w_adr E.2.1 12 0)), (2, .int (w_i w 12 0 56))] ⟨rfl, ⟨rfl, trivial⟩⟩ rfl (zt_X13_nameAction_p697 hL  h)
  · skip
    refine kz_aload_n (M := kt_M471) kX13_nameAction_c18.2.1 rfl ?_
    refine kz_gfc (M := kt_M471) (x := 4103) (c := 12) (o := 0) kX13_nameAction_c18.2.2.1 wf_X13_202 (.inl rfl) ?_
    refine kz_iload_n (M := kt_M471) kX13_nameAction_c18.2.2.2.1 rfl ?_
    refine kz_aload_n (M := kt_M471) kX13_nameAction_c18.2.2.2.2.1 rfl ?_
    refine kz_aload_n (M := kt_M471) kX13_nameAction_c18.2.2.2.2.2.1 rfl ?_
    refine kz_gfc (M := kt_M471) (x := 4102) (c := 12) (o := 0) kX13_nameAction_c18.2.2.2.2.2.2.1 wf_X13_199 (.inl rfl) ?_
    refine kz_iload_n (M := kt_M471) kX13_nameAction_c18.2.2.2.2.2.2.2.1 rfl ?_
    refine kz_iald (M := kt_M471) (c := 12) (o := 0) (k := 30) (a := (E.2.1 4102)) kX13_nameAction_c19.1 ow_12_0_30 oa_12_0_30 ot_0 h (fun h => ?_)
    refine kz_aload_n (M := kt_M471) kX13_nameAction_c19.2.1 rfl ?_
    refine kz_gfc (M := kt_M471) (x := 4099) (c := 12) (o := 0) kX13_nameAction_c19.2.2.1 wf_X13_190 (.inl rfl) ?_
    refine kz_iload_n (M := kt_M471) kX13_nameAction_c19.2.2.2.1 rfl ?_
    refine kz_iald (M := kt_M471) (c := 12) (o := 0) (k := 27) (a := (E.2.1 4099)) kX13_nameAction_c19.2.2.2.2.1 ow_12_0_27 oa_12_0_27 ot_0 h (fun h => ?_)
    refine kz_cv1 (M := kt_M471) (c := 12) (o := 0) (As := [.int (w_a w 12 0 30 (x1).toNatClampNeg), .int (w_a w 12 0 27 (x1).toNatClampNeg)]) (rest := [.int x1, .ref (E.2.1 4103)]) kX13_nameAction_c19.2.2.2.2.2.1 wl_X13_740 wMv_411 rfl (.inl rfl) rfl (Nat.le_trans (Nat.le_of_ble_eq_true rfl) hL) (Nat.le_of_ble_eq_true rfl) (Nat.le_of_ble_eq_true rfl) h (fun v12 w11 hle h => ?_) (fun _ _ _ h => kzx_no rfl h)
    have h := h hle
    refine kz_iast (M := kt_M471) (c := 12) (o := 0) (k := 31) (a := (E.2.1 4103)) kX13_nameAction_c19.2.2.2.2.2.2.1 ow_12_0_31 oa_12_0_31 ot_0 h (fun h => ?_)
    refine kz_aload_n (M := kt_M471) kX13_nameAction_c19.2.2.2.2.2.2.2.1 rfl ?_
    refine kz_gfc (M := kt_M471) (x := 4103) (c := 12) (o := 0) kX13_nameAction_c20.1 wf_X13_202 (.inl rfl) ?_
    refine kz_iload_n (M := kt_M471) kX13_nameAction_c20.2.1 rfl ?_
    refine kz_ialdR (M := kt_M471) (n := w_n w11 12 0 31) (c := 12) (o := 0) (k := 31) (a := (E.2.1 4103)) (w_a (ws_a w11 12 0 31 (x1).toNatClampNeg v12) 12 0 31 (x1).toNatClampNeg) kX13_nameAction_c20.2.2.1 ow_12_0_31 oa_12_0_31 ot_0 rd_n_a rfl h (fun h => ?_)
    refine kz_if_lt (M := kt_M471) kX13_nameAction_c20.2.2.2.1 (t := 373) rfl h (fun h => ?_) (fun h => ?_)
    · skip
      exact kz_weak [(0, .ref (w_adr E.2.1 12 0)), (1, .int x1), (2, .int (w_i w 12 0 56))] ⟨rfl, ⟨rfl, ⟨rfl, trivial⟩⟩⟩ rfl (zt_X13_nameAction_p373 hL  h)
    · skip
      refine kz_aload_n (M := kt_M471) kX13_nameAction_c20.2.2.2.2.1 rfl ?_
      refine kz_gfc (M := kt_M471) (x := 4118) (c := 12) (o := 0) kX13_nameAction_c20.2.2.2.2.2.1 wf_X13_223 (.inl rfl) ?_
      refine kz_aload_n (M := kt_M471) kX13_nameAction_c20.2.2.2.2.2.2.1 rfl ?_
      refine kz_gfc (M := kt_M471) (x := 4103) (c := 12) (o := 0) kX13_nameAction_c20.2.2.2.2.2.2.2.1 wf_X13_202 (.inl rfl) ?_
      refine kz_iload_n (M := kt_M471) kX13_nameAction_c21.1 rfl ?_
      refine kz_ialdR (M := kt_M471) (n := w_n w11 12 0 31) (c := 12) (o := 0) (k := 31) (a := (E.2.1 4103)) (w_a (ws_a w11 12 0 31 (x1).toNatClampNeg v12) 12 0 31 (x1).toNatClampNeg) kX13_nameAction_c21.2.1 ow_12_0_31 oa_12_0_31 ot_0 rd_n_a rfl h (fun h => ?_)
      refine kz_ialdR (M := kt_M471) (n := w_n w11 12 0 46) (c := 12) (o := 0) (k := 46) (a := (E.2.1 4118)) (w_a w11 12 0 46 (w_a (ws_a w11 12 0 31 (x1).toNatClampNeg v12) 12 0 31 (x1).toNatClampNeg).toNatClampNeg) kX13_nameAction_c21.2.2.1 ow_12_0_46 oa_12_0_46 ot_0 rd_n_a (rd_a_a rfl) h (fun h => ?_)
      refine kz_bi (M := kt_M471) 7 kX13_nameAction_c21.2.2.2.1 rfl ?_
      refine kz_icmp_eq (M := kt_M471) kX13_nameAction_c21.2.2.2.2.1 (t := 373) rfl h (fun h => ?_) (fun h => ?_)
      · skip
        exact kz_weak [(0, .ref (w_adr E.2.1 12 0)), (1, .int x1), (2, .int (w_i w 12 0 56))] ⟨rfl, ⟨rfl, ⟨rfl, trivial⟩⟩⟩ rfl (zt_X13_nameAction_p373 hL  h)
      · skip
        refine kz_aload_n (M := kt_M471) kX13_nameAction_c21.2.2.2.2.2.1 rfl ?_
        refine kz_bi (M := kt_M471) 6 kX13_nameAction_c21.2.2.2.2.2.2.1 rfl ?_
        refine kz_aload_n (M := kt_M471) kX13_nameAction_c21.2.2.2.2.2.2.2.1 rfl ?_
        refine kz_gfc (M := kt_M471) (x := 4099) (c := 12) (o := 0) kX13_nameAction_c22.1 wf_X13_190 (.inl rfl) ?_
        refine kz_iload_n (M := kt_M471) kX13_nameAction_c22.2.1 rfl ?_
        refine kz_ialdR (M := kt_M471) (n := w_n w11 12 0 27) (c := 12) (o := 0) (k := 27) (a := (E.2.1 4099)) (w_a w11 12 0 27 (x1).toNatClampNeg) kX13_nameAction_c22.2.2.1 ow_12_0_27 oa_12_0_27 ot_0 rd_n_a (rd_a_a rfl) h (fun h => ?_)
        refine kz_cv0 (M := kt_M471) (c := 12) (o := 0) (As := [.int 6, .int (w_a w11 12 0 27 (x1).toNatClampNeg)]) (rest := []) kX13_nameAction_c22.2.2.2.1 wl_X13_734 wMv_560 rfl (.inl rfl) rfl (Nat.le_trans (Nat.le_of_ble_eq_true rfl) hL) (Nat.le_of_ble_eq_true rfl) (Nat.le_of_ble_eq_true rfl) h (fun w13 hle h => ?_) (fun _ _ _ h => kzx_no rfl h)
        have h := h hle
        exact kz_weak [(0, .ref (w_adr E.2.1 12 0)), (1, .int x1), (2, .int (w_i w 12 0 56))] ⟨rfl, ⟨rfl, ⟨rfl, trivial⟩⟩⟩ rfl (zt_X13_nameAction_p373 hL  h)
  · skip
    refine kz_aload_n (M := kt_M471) kX13_nameAction_c24.2.2.2.2.2.2.1 rfl ?_
    refine kz_gfc (M := kt_M471) (x := 4100) (c := 12) (o := 0) kX13_nameAction_c24.2.2.2.2.2.2.2.1 wf_X13_193 (.inl rfl) ?_
    refine kz_iload_n (M := kt_M471) kX13_nameAction_c25.1 rfl ?_
    refine kz_iald (M := kt_M471) (c := 12) (o := 0) (k := 28) (a := (E.2.1 4100)) kX13_nameAction_c25.2.1 ow_12_0_28 oa_12_0_28 ot_0 h (fun h => ?_)
    refine kz_if_lt (M := kt_M471) kX13_nameAction_c25.2.2.1 (t := 422) rfl h (fun h => ?_) (fun h => ?_)
    · skip
      exact kz_weak [(0, .ref (w_adr E.2.1 12 0)), (1, .int x1), (2, .int (w_i w 12 0 56))] ⟨rfl, ⟨rfl, ⟨rfl, trivial⟩⟩⟩ rfl (zt_X13_nameAction_p422 hL  h)
    · skip
      refine kz_aload_n (M := kt_M471) kX13_nameAction_c25.2.2.2.1 rfl ?_
      refine kz_aload_n (M := kt_M471) kX13_nameAction_c25.2.2.2.2.1 rfl ?_
      refine kz_gfc (M := kt_M471) (x := 4100) (c := 12) (o := 0) kX13_nameAction_c25.2.2.2.2.2.1 wf_X13_193 (.inl rfl) ?_
      refine kz_iload_n (M := kt_M471) kX13_nameAction_c25.2.2.2.2.2.2.1 rfl ?_
      refine kz_iald (M := kt_M471) (c := 12) (o := 0) (k := 28) (a := (E.2.1 4100)) kX13_nameAction_c25.2.2.2.2.2.2.2.1 ow_12_0_28 oa_12_0_28 ot_0 h (fun h => ?_)
      refine kz_cv0 (M := kt_M471) (c := 12) (o := 0) (As := [.int (w_a w 12 0 28 (x1).toNatClampNeg)]) (rest := []) kX13_nameAction_c26.1 wl_X13_778 wMv_484 rfl (.inl rfl) rfl (Nat.le_trans (Nat.le_of_ble_eq_true rfl) hL) (Nat.le_of_ble_eq_true rfl) (Nat.le_of_ble_eq_true rfl) h (fun w15 hle h => ?_) (fun _ _ _ h => kzx_no rfl h)
      have h := h hle
      exact kz_weak [(0, .ref (w_adr E.2.1 12 0)), (1, .int x1), (2, .int (w_i w 12 0 56))] ⟨rfl, ⟨rfl, ⟨rfl, trivial⟩⟩⟩ rfl (zt_X13_nameAction_p422 hL  h)
  · skip
    refine kz_aload_n (M := kt_M471) kX13_nameAction_c28.2.2.1 rfl ?_
    refine kz_iload_n (M := kt_M471) kX13_nameAction_c28.2.2.2.1 rfl ?_
    refine kz_cv0 (M := kt_M471) (c := 12) (o := 0) (As := [.int x1]) (rest := []) kX13_nameAction_c28.2.2.2.2.1 wl_X13_781 wMv_482 rfl (.inl rfl) rfl (Nat.le_trans (Nat.le_of_ble_eq_true rfl) hL) (Nat.le_of_ble_eq_true rfl) (Nat.le_of_ble_eq_true rfl) h (fun w17 hle h => ?_) (fun _ _ _ h => kzx_no rfl h)
    have h := h hle
    refine kz_goto (M := kt_M471) kX13_nameAction_c28.2.2.2.2.2.1 (t := 697) rfl ?_
    exact kz_weak [(0, .ref (w_adr E.2.1 12 0)), (2, .int (w_i w 12 0 56))] ⟨rfl, ⟨rfl, trivial⟩⟩ rfl (zt_X13_nameAction_p697 hL  h)
  · skip
    refine kz_aload_n (M := kt_M471) kX13_nameAction_c28.2.2.2.2.2.2.1 rfl ?_
    refine kz_gfc (M := kt_M471) (x := 4101) (c := 12) (o := 0) kX13_nameAction_c28.2.2.2.2.2.2.2.1 wf_X13_196 (.inl rfl) ?_
    refine kz_iload_n (M := kt_M471) kX13_nameAction_c29.1 rfl ?_
    refine kz_iald (M := kt_M471) (c := 12) (o := 0) (k := 29) (a := (E.2.1 4101)) kX13_nameAction_c29.2.1 ow_12_0_29 oa_12_0_29 ot_0 h (fun h => ?_)
    refine kz_sti_n (M := kt_M471) [(0, .ref (w_adr E.2.1 12 0)), (2, .int (w_i w 12 0 56))] kX13_nameAction_c29.2.2.1 (Nat.le_of_ble_eq_true rfl) ⟨⟨rfl, rfl, .inl rfl⟩, ⟨⟨rfl, rfl, .inr rfl⟩, trivial⟩⟩ rfl ?_
    exact kz_weak [(0, .ref (w_adr E.2.1 12 0)), (2, .int (w_i w 12 0 56)), (3, .int (w_a w 12 0 29 (x1).toNatClampNeg))] ⟨rfl, ⟨rfl, ⟨rfl, trivial⟩⟩⟩ rfl h
  · skip
    refine kz_aload_n (M := kt_M471) kX13_nameAction_c32.2.1 rfl ?_
    refine kz_aload_n (M := kt_M471) kX13_nameAction_c32.2.2.1 rfl ?_
    refine kz_gfc (M := kt_M471) (x := 4100) (c := 12) (o := 0) kX13_nameAction_c32.2.2.2.1 wf_X13_193 (.inl rfl) ?_
    refine kz_iload_n (M := kt_M471) kX13_nameAction_c32.2.2.2.2.1 rfl ?_
    refine kz_iald (M := kt_M471) (c := 12) (o := 0) (k := 28) (a := (E.2.1 4100)) kX13_nameAction_c32.2.2.2.2.2.1 ow_12_0_28 oa_12_0_28 ot_0 h (fun h => ?_)
    refine kz_ic (M := kt_M471) 0 kX13_nameAction_c32.2.2.2.2.2.2.1 rfl ?_
    refine kz_cv0 (M := kt_M471) (c := 12) (o := 0) (As := [.int (w_a w 12 0 28 (x1).toNatClampNeg), .int 0]) (rest := []) kX13_nameAction_c32.2.2.2.2.2.2.2.1 wl_X13_743 wMv_476 rfl (.inl rfl) rfl (Nat.le_trans (Nat.le_of_ble_eq_true rfl) hL) (Nat.le_of_ble_eq_true rfl) (Nat.le_of_ble_eq_true rfl) h (fun w19 hle h => ?_) (fun _ _ _ h => kzx_no rfl h)
    have h := h hle
    refine kz_aload_n (M := kt_M471) kX13_nameAction_c33.1 rfl ?_
    refine kz_gfc (M := kt_M471) (x := 4101) (c := 12) (o := 0) kX13_nameAction_c33.2.1 wf_X13_196 (.inl rfl) ?_
    refine kz_iload_n (M := kt_M471) kX13_nameAction_c33.2.2.1 rfl ?_
    refine kz_iald (M := kt_M471) (c := 12) (o := 0) (k := 29) (a := (E.2.1 4101)) kX13_nameAction_c33.2.2.2.1 ow_12_0_29 oa_12_0_29 ot_0 h (fun h => ?_)
    refine kz_sti_n (M := kt_M471) [(0, .ref (w_adr E.2.1 12 0)), (2, .int (w_i w 12 0 56))] kX13_nameAction_c33.2.2.2.2.1 (Nat.le_of_ble_eq_true rfl) ⟨⟨rfl, rfl, .inl rfl⟩, ⟨⟨rfl, rfl, .inr rfl⟩, trivial⟩⟩ rfl ?_
    exact kz_weak [(0, .ref (w_adr E.2.1 12 0)), (2, .int (w_i w 12 0 56)), (3, .int (w_a w19 12 0 29 (x1).toNatClampNeg))] ⟨rfl, ⟨rfl, ⟨rfl, trivial⟩⟩⟩ rfl h
  · skip
    refine kz_aload_n (M := kt_M471) kX13_nameAction_c37.2.2.2.2.2.1 rfl ?_
    refine kz_aload_n (M := kt_M471) kX13_nameAction_c37.2.2.2.2.2.2.1 rfl ?_
    refine kz_gfc (M := kt_M471) (x := 4100) (c := 12) (o := 0) kX13_nameAction_c37.2.2.2.2.2.2.2.1 wf_X13_193 (.inl rfl) ?_
    refine kz_iload_n (M := kt_M471) kX13_nameAction_c38.1 rfl ?_
    refine kz_iald (M := kt_M471) (c := 12) (o := 0) (k := 28) (a := (E.2.1 4100)) kX13_nameAction_c38.2.1 ow_12_0_28 oa_12_0_28 ot_0 h (fun h => ?_)
    refine kz_ic (M := kt_M471) 0 kX13_nameAction_c38.2.2.1 rfl ?_
    refine kz_cv0 (M := kt_M471) (c := 12) (o := 0) (As := [.int (w_a w 12 0 28 (x1).toNatClampNeg), .int 0]) (rest := []) kX13_nameAction_c38.2.2.2.1 wl_X13_743 wMv_476 rfl (.inl rfl) rfl (Nat.le_trans (Nat.le_of_ble_eq_true rfl) hL) (Nat.le_of_ble_eq_true rfl) (Nat.le_of_ble_eq_true rfl) h (fun w21 hle h => ?_) (fun _ _ _ h => kzx_no rfl h)
    have h := h hle
    refine kz_aload_n (M := kt_M471) kX13_nameAction_c38.2.2.2.2.1 rfl ?_
    refine kz_aload_n (M := kt_M471) kX13_nameAction_c38.2.2.2.2.2.1 rfl ?_
    refine kz_gfc (M := kt_M471) (x := 4101) (c := 12) (o := 0) kX13_nameAction_c38.2.2.2.2.2.2.1 wf_X13_196 (.inl rfl) ?_
    refine kz_iload_n (M := kt_M471) kX13_nameAction_c38.2.2.2.2.2.2.2.1 rfl ?_
    refine kz_iald (M := kt_M471) (c := 12) (o := 0) (k := 29) (a := (E.2.1 4101)) kX13_nameAction_c39.1 ow_12_0_29 oa_12_0_29 ot_0 h (fun h => ?_)
    refine kz_cv0 (M := kt_M471) (c := 12) (o := 0) (As := [.int (w_a w21 12 0 29 (x1).toNatClampNeg)]) (rest := []) kX13_nameAction_c39.2.1 wl_X13_772 wMv_473 rfl (.inl rfl) rfl (Nat.le_trans (Nat.le_of_ble_eq_true rfl) hL) (Nat.le_of_ble_eq_true rfl) (Nat.le_of_ble_eq_true rfl) h (fun w23 hle h => ?_) (fun _ _ _ h => kzx_no rfl h)
    have h := h hle
    refine kz_goto (M := kt_M471) kX13_nameAction_c39.2.2.1 (t := 697) rfl ?_
    exact kz_weak [(0, .ref (w_adr E.2.1 12 0)), (2, .int (w_i w 12 0 56))] ⟨rfl, ⟨rfl, trivial⟩⟩ rfl (zt_X13_nameAction_p697 hL  h)
  · skip
    refine kz_aload_n (M := kt_M471) kX13_nameAction_c39.2.2.2.1 rfl ?_
    refine kz_gfc (M := kt_M471) (x := 4100) (c := 12) (o := 0) kX13_nameAction_c39.2.2.2.2.1 wf_X13_193 (.inl rfl) ?_
    refine kz_iload_n (M := kt_M471) kX13_nameAction_c39.2.2.2.2.2.1 rfl ?_
    refine kz_iald (M := kt_M471) (c := 12) (o := 0) (k := 28) (a := (E.2.1 4100)) kX13_nameAction_c39.2.2.2.2.2.2.1 ow_12_0_28 oa_12_0_28 ot_0 h (fun h => ?_)
    refine kz_if_lt (M := kt_M471) kX13_nameAction_c39.2.2.2.2.2.2.2.1 (t := 624) rfl h (fun h => ?_) (fun h => ?_)
    · skip
      exact kz_weak [(0, .ref (w_adr E.2.1 12 0)), (1, .int x1), (2, .int (w_i w 12 0 56))] ⟨rfl, ⟨rfl, ⟨rfl, trivial⟩⟩⟩ rfl (zt_X13_nameAction_p624 hL  h)
    · skip
      refine kz_aload_n (M := kt_M471) kX13_nameAction_c40.1 rfl ?_
      refine kz_aload_n (M := kt_M471) kX13_nameAction_c40.2.1 rfl ?_
      refine kz_gfc (M := kt_M471) (x := 4100) (c := 12) (o := 0) kX13_nameAction_c40.2.2.1 wf_X13_193 (.inl rfl) ?_
      refine kz_iload_n (M := kt_M471) kX13_nameAction_c40.2.2.2.1 rfl ?_
      refine kz_iald (M := kt_M471) (c := 12) (o := 0) (k := 28) (a := (E.2.1 4100)) kX13_nameAction_c40.2.2.2.2.1 ow_12_0_28 oa_12_0_28 ot_0 h (fun h => ?_)
      refine kz_cv0 (M := kt_M471) (c := 12) (o := 0) (As := [.int (w_a w 12 0 28 (x1).toNatClampNeg)]) (rest := []) kX13_nameAction_c40.2.2.2.2.2.1 wl_X13_778 wMv_484 rfl (.inl rfl) rfl (Nat.le_trans (Nat.le_of_ble_eq_true rfl) hL) (Nat.le_of_ble_eq_true rfl) (Nat.le_of_ble_eq_true rfl) h (fun w25 hle h => ?_) (fun _ _ _ h => kzx_no rfl h)
      have h := h hle
      exact kz_weak [(0, .ref (w_adr E.2.1 12 0)), (1, .int x1), (2, .int (w_i w 12 0 56))] ⟨rfl, ⟨rfl, ⟨rfl, trivial⟩⟩⟩ rfl (zt_X13_nameAction_p624 hL  h)
  · skip
    exact kz_weak [(0, .ref (w_adr E.2.1 12 0)), (2, .int (w_i w 12 0 56))] ⟨rfl, ⟨rfl, trivial⟩⟩ rfl (zt_X13_nameAction_p697 hL  h)
def zL_X13_nameIn_p80 (E : zE) (L : Nat) (Q : kx_Rs → wS → Prop) (x4 : Int32) (w : wS) : Prop := kzE E L kt_M479 80 [(0, .ref (w_adr E.2.1 12 0)), (4, .int x4)] [] w Q
def zb_X13_nameIn_p80 (E : zE) (L : Nat) (Q : kx_Rs → wS → Prop) (x4 : Int32) (w : wS) : Prop := (if x4 < 0 then Q (.inl none) w else zw E (L - 23) kt_M472 [.ref (w_adr E.2.1 12 0), .int x4, .int 1] w (wk0 (fun w1 => wle w w1 → (kx_inb x4 (w_n w1 12 0 32) = true ∧ zL_X13_nameIn_p80 E L Q (w_a w1 12 0 32 (x4).toNatClampNeg) w1)) (fun e w => Q (.inr e) w)))
theorem zt_X13_nameIn_p80 {E : zE} {L : Nat} {Q : kx_Rs → wS → Prop} {x4 : Int32} {w : wS} (hL : 23 ≤ L) (h : zb_X13_nameIn_p80 E L Q x4 w) : kzE E L kt_M479 80 [(0, .ref (w_adr E.2.1 12 0)), (4, .int x4)] [] w Q := by
  unfold zb_X13_nameIn_p80 at h
  refine kz_iload (M := kt_M479) kX13_nameIn_c6.1 rfl ?_
  refine kz_if_lt (M := kt_M479) kX13_nameIn_c6.2.1 (t := 104) rfl h (fun h => ?_) (fun h => ?_)
  · skip
    exact kz_ret (M := kt_M479) kX13_nameIn_c7.2.2.2.2.1 rfl h
  · skip
    refine kz_aload_n (M := kt_M479) kX13_nameIn_c6.2.2.1 rfl ?_
    refine kz_iload (M := kt_M479) kX13_nameIn_c6.2.2.2.1 rfl ?_
    refine kz_ic (M := kt_M479) 1 kX13_nameIn_c6.2.2.2.2.1 rfl ?_
    refine kz_cv0 (M := kt_M479) (c := 12) (o := 0) (As := [.int x4, .int 1]) (rest := []) kX13_nameIn_c6.2.2.2.2.2.1 wl_X13_766 wMv_472 rfl (.inl rfl) rfl (Nat.le_trans (Nat.le_of_ble_eq_true rfl) hL) (Nat.le_of_ble_eq_true rfl) (Nat.le_of_ble_eq_true rfl) h (fun w1 hle h => ?_) (fun _ _ _ h => kzx_no rfl h)
    have h := h hle
    refine kz_aload_n (M := kt_M479) kX13_nameIn_c6.2.2.2.2.2.2.1 rfl ?_
    refine kz_gfc (M := kt_M479) (x := 4104) (c := 12) (o := 0) kX13_nameIn_c6.2.2.2.2.2.2.2.1 wf_X13_205 (.inl rfl) ?_
    refine kz_iload (M := kt_M479) kX13_nameIn_c7.1 rfl ?_
    refine kz_iald (M := kt_M479) (c := 12) (o := 0) (k := 32) (a := (E.2.1 4104)) kX13_nameIn_c7.2.1 ow_12_0_32 oa_12_0_32 ot_0 h (fun h => ?_)
    refine kz_sti (M := kt_M479) [(0, .ref (w_adr E.2.1 12 0))] kX13_nameIn_c7.2.2.1 (Nat.le_of_ble_eq_true rfl) ⟨⟨rfl, rfl, .inl rfl⟩, trivial⟩ rfl ?_
    refine kz_goto (M := kt_M479) kX13_nameIn_c7.2.2.2.1 (t := 80) rfl ?_
    exact kz_weak [(0, .ref (w_adr E.2.1 12 0)), (4, .int (w_a w1 12 0 32 (x4).toNatClampNeg))] ⟨rfl, ⟨rfl, trivial⟩⟩ rfl h
def zb_X13_nameIn_p72 (E : zE) (L : Nat) (Q : kx_Rs → wS → Prop) (x1 : Int32) (w : wS) : Prop := (kx_inb x1 (w_n w 12 0 29) = true ∧ zL_X13_nameIn_p80 E L Q (w_a w 12 0 29 (x1).toNatClampNeg) w)
theorem zt_X13_nameIn_p72 {E : zE} {L : Nat} {Q : kx_Rs → wS → Prop} {x1 : Int32} {w : wS} (hL : 23 ≤ L) (h : zb_X13_nameIn_p72 E L Q x1 w) : kzE E L kt_M479 72 [(0, .ref (w_adr E.2.1 12 0)), (1, .int x1)] [] w Q := by
  unfold zb_X13_nameIn_p72 at h
  refine kz_aload_n (M := kt_M479) kX13_nameIn_c5.2.2.2.1 rfl ?_
  refine kz_gfc (M := kt_M479) (x := 4101) (c := 12) (o := 0) kX13_nameIn_c5.2.2.2.2.1 wf_X13_196 (.inl rfl) ?_
  refine kz_iload_n (M := kt_M479) kX13_nameIn_c5.2.2.2.2.2.1 rfl ?_
  refine kz_iald (M := kt_M479) (c := 12) (o := 0) (k := 29) (a := (E.2.1 4101)) kX13_nameIn_c5.2.2.2.2.2.2.1 ow_12_0_29 oa_12_0_29 ot_0 h (fun h => ?_)
  refine kz_sti (M := kt_M479) [(0, .ref (w_adr E.2.1 12 0))] kX13_nameIn_c5.2.2.2.2.2.2.2.1 (Nat.le_of_ble_eq_true rfl) ⟨⟨rfl, rfl, .inl rfl⟩, trivial⟩ rfl ?_
  exact kz_weak [(0, .ref (w_adr E.2.1 12 0)), (4, .int (w_a w 12 0 29 (x1).toNatClampNeg))] ⟨rfl, ⟨rfl, trivial⟩⟩ rfl h
def zb_X13_nameIn_p60 (E : zE) (L : Nat) (Q : kx_Rs → wS → Prop) (x1 : Int32) (w : wS) : Prop := (kx_inb x1 (w_n w 12 0 27) = true ∧ zw E (L - 22) kt_M560 [.ref (w_adr E.2.1 12 0), .int 6, .int (w_a w 12 0 27 (x1).toNatClampNeg)] w (wk0 (fun w1 => wle w w1 → zb_X13_nameIn_p72 E L Q x1 w1) (fun e w => Q (.inr e) w)))
theorem zt_X13_nameIn_p60 {E : zE} {L : Nat} {Q : kx_Rs → wS → Prop} {x1 : Int32} {w : wS} (hL : 23 ≤ L) (h : zb_X13_nameIn_p60 E L Q x1 w) : kzE E L kt_M479 60 [(0, .ref (w_adr E.2.1 12 0)), (1, .int x1)] [] w Q := by
  unfold zb_X13_nameIn_p60 at h
  refine kz_aload_n (M := kt_M479) kX13_nameIn_c4.2.2.2.2.1 rfl ?_
  refine kz_bi (M := kt_M479) 6 kX13_nameIn_c4.2.2.2.2.2.1 rfl ?_
  refine kz_aload_n (M := kt_M479) kX13_nameIn_c4.2.2.2.2.2.2.1 rfl ?_
  refine kz_gfc (M := kt_M479) (x := 4099) (c := 12) (o := 0) kX13_nameIn_c4.2.2.2.2.2.2.2.1 wf_X13_190 (.inl rfl) ?_
  refine kz_iload_n (M := kt_M479) kX13_nameIn_c5.1 rfl ?_
  refine kz_iald (M := kt_M479) (c := 12) (o := 0) (k := 27) (a := (E.2.1 4099)) kX13_nameIn_c5.2.1 ow_12_0_27 oa_12_0_27 ot_0 h (fun h => ?_)
  refine kz_cv0 (M := kt_M479) (c := 12) (o := 0) (As := [.int 6, .int (w_a w 12 0 27 (x1).toNatClampNeg)]) (rest := []) kX13_nameIn_c5.2.2.1 wl_X13_734 wMv_560 rfl (.inl rfl) rfl (Nat.le_trans (Nat.le_of_ble_eq_true rfl) hL) (Nat.le_of_ble_eq_true rfl) (Nat.le_of_ble_eq_true rfl) h (fun w1 hle h => ?_) (fun _ _ _ h => kzx_no rfl h)
  have h := h hle
  exact kz_weak [(0, .ref (w_adr E.2.1 12 0)), (1, .int x1)] ⟨rfl, ⟨rfl, trivial⟩⟩ rfl (zt_X13_nameIn_p72 hL  h)
def zb_X13_nameIn_p31 (E : zE) (L : Nat) (Q : kx_Rs → wS → Prop) (x1 : Int32) (x2 : Int32) (y0 : Int32) (w : wS) : Prop := (if x2 < 0 then zb_X13_nameIn_p72 E L Q x1 w else (kx_inb x2 (w_n w 12 0 46) = true ∧ (if w_a w 12 0 46 (x2).toNatClampNeg = 3 then zb_X13_nameIn_p72 E L Q x1 w else (kx_inb x2 (w_n w 12 0 46) = true ∧ (if ¬ w_a w 12 0 46 (x2).toNatClampNeg = 4 then zb_X13_nameIn_p60 E L Q x1 w else (if ¬ y0 = 0 then zb_X13_nameIn_p72 E L Q x1 w else zb_X13_nameIn_p60 E L Q x1 w))))))
theorem zt_X13_nameIn_p31 {E : zE} {L : Nat} {Q : kx_Rs → wS → Prop} {x1 : Int32} {x2 : Int32} {y0 : Int32} {w : wS} (hL : 23 ≤ L) (h : zb_X13_nameIn_p31 E L Q x1 x2 y0 w) : kzE E L kt_M479 31 [(0, .ref (w_adr E.2.1 12 0)), (1, .int x1), (2, .int x2)] [.int y0] w Q := by
  unfold zb_X13_nameIn_p31 at h
  refine kz_sti_n (M := kt_M479) [(0, .ref (w_adr E.2.1 12 0)), (1, .int x1), (2, .int x2)] kX13_nameIn_c2.2.2.2.1 (Nat.le_of_ble_eq_true rfl) ⟨⟨rfl, rfl, .inl rfl⟩, ⟨⟨rfl, rfl, .inl rfl⟩, ⟨⟨rfl, rfl, .inr rfl⟩, trivial⟩⟩⟩ rfl ?_
  refine kz_iload_n (M := kt_M479) kX13_nameIn_c2.2.2.2.2.1 rfl ?_
  refine kz_if_lt (M := kt_M479) kX13_nameIn_c2.2.2.2.2.2.1 (t := 72) rfl h (fun h => ?_) (fun h => ?_)
  · skip
    exact kz_weak [(0, .ref (w_adr E.2.1 12 0)), (1, .int x1)] ⟨rfl, ⟨rfl, trivial⟩⟩ rfl (zt_X13_nameIn_p72 hL  h)
  · skip
    refine kz_aload_n (M := kt_M479) kX13_nameIn_c2.2.2.2.2.2.2.1 rfl ?_
    refine kz_gfc (M := kt_M479) (x := 4118) (c := 12) (o := 0) kX13_nameIn_c2.2.2.2.2.2.2.2.1 wf_X13_223 (.inl rfl) ?_
    refine kz_iload_n (M := kt_M479) kX13_nameIn_c3.1 rfl ?_
    refine kz_iald (M := kt_M479) (c := 12) (o := 0) (k := 46) (a := (E.2.1 4118)) kX13_nameIn_c3.2.1 ow_12_0_46 oa_12_0_46 ot_0 h (fun h => ?_)
    refine kz_ic (M := kt_M479) 3 kX13_nameIn_c3.2.2.1 rfl ?_
    refine kz_icmp_eq (M := kt_M479) kX13_nameIn_c3.2.2.2.1 (t := 72) rfl h (fun h => ?_) (fun h => ?_)
    · skip
      exact kz_weak [(0, .ref (w_adr E.2.1 12 0)), (1, .int x1)] ⟨rfl, ⟨rfl, trivial⟩⟩ rfl (zt_X13_nameIn_p72 hL  h)
    · skip
      refine kz_aload_n (M := kt_M479) kX13_nameIn_c3.2.2.2.2.1 rfl ?_
      refine kz_gfc (M := kt_M479) (x := 4118) (c := 12) (o := 0) kX13_nameIn_c3.2.2.2.2.2.1 wf_X13_223 (.inl rfl) ?_
      refine kz_iload_n (M := kt_M479) kX13_nameIn_c3.2.2.2.2.2.2.1 rfl ?_
      refine kz_iald (M := kt_M479) (c := 12) (o := 0) (k := 46) (a := (E.2.1 4118)) kX13_nameIn_c3.2.2.2.2.2.2.2.1 ow_12_0_46 oa_12_0_46 ot_0 h (fun h => ?_)
      refine kz_ic (M := kt_M479) 4 kX13_nameIn_c4.1 rfl ?_
      refine kz_icmp_ne (M := kt_M479) kX13_nameIn_c4.2.1 (t := 60) rfl h (fun h => ?_) (fun h => ?_)
      · skip
        exact kz_weak [(0, .ref (w_adr E.2.1 12 0)), (1, .int x1)] ⟨rfl, ⟨rfl, trivial⟩⟩ rfl (zt_X13_nameIn_p60 hL  h)
      · skip
        refine kz_iload_n (M := kt_M479) kX13_nameIn_c4.2.2.1 rfl ?_
        refine kz_if_ne (M := kt_M479) kX13_nameIn_c4.2.2.2.1 (t := 72) rfl h (fun h => ?_) (fun h => ?_)
        · skip
          exact kz_weak [(0, .ref (w_adr E.2.1 12 0)), (1, .int x1)] ⟨rfl, ⟨rfl, trivial⟩⟩ rfl (zt_X13_nameIn_p72 hL  h)
        · skip
          exact kz_weak [(0, .ref (w_adr E.2.1 12 0)), (1, .int x1)] ⟨rfl, ⟨rfl, trivial⟩⟩ rfl (zt_X13_nameIn_p60 hL  h)
def zb_X13_nameIn_p0 (E : zE) (L : Nat) (Q : kx_Rs → wS → Prop) (x1 : Int32) (w : wS) : Prop := (kx_inb x1 (w_n w 12 0 28) = true ∧ zw E (L - 21) kt_M477 [.ref (w_adr E.2.1 12 0), .int (w_a w 12 0 28 (x1).toNatClampNeg)] w (wk1 (fun v2 w1 => wle w w1 → (kx_inb x1 (w_n w1 12 0 29) = true ∧ (kx_inb (w_a w1 12 0 29 (x1).toNatClampNeg) (w_n w1 12 0 32) = true ∧ (if ¬ w_a w1 12 0 32 (w_a w1 12 0 29 (x1).toNatClampNeg).toNatClampNeg = (-1) then zb_X13_nameIn_p31 E L Q x1 v2 0 w1 else zb_X13_nameIn_p31 E L Q x1 v2 1 w1)))) (fun e w => Q (.inr e) w)))
theorem zt_X13_nameIn_p0 {E : zE} {L : Nat} {Q : kx_Rs → wS → Prop} {x1 : Int32} {w : wS} (hL : 23 ≤ L) (h : zb_X13_nameIn_p0 E L Q x1 w) : kzE E L kt_M479 0 [(0, .ref (w_adr E.2.1 12 0)), (1, .int x1)] [] w Q := by
  unfold zb_X13_nameIn_p0 at h
  refine kz_aload_n (M := kt_M479) kX13_nameIn_c0.1 rfl ?_
  refine kz_aload_n (M := kt_M479) kX13_nameIn_c0.2.1 rfl ?_
  refine kz_gfc (M := kt_M479) (x := 4100) (c := 12) (o := 0) kX13_nameIn_c0.2.2.1 wf_X13_193 (.inl rfl) ?_
  refine kz_iload_n (M := kt_M479) kX13_nameIn_c0.2.2.2.1 rfl ?_
  refine kz_iald (M := kt_M479) (c := 12) (o := 0) (k := 28) (a := (E.2.1 4100)) kX13_nameIn_c0.2.2.2.2.1 ow_12_0_28 oa_12_0_28 ot_0 h (fun h => ?_)
  refine kz_cv1 (M := kt_M479) (c := 12) (o := 0) (As := [.int (w_a w 12 0 28 (x1).toNatClampNeg)]) (rest := []) kX13_nameIn_c0.2.2.2.2.2.1 wl_X13_747 wMv_477 rfl (.inl rfl) rfl (Nat.le_trans (Nat.le_of_ble_eq_true rfl) hL) (Nat.le_of_ble_eq_true rfl) (Nat.le_of_ble_eq_true rfl) h (fun v2 w1 hle h => ?_) (fun _ _ _ h => kzx_no rfl h)
  have h := h hle
  refine kz_sti_n (M := kt_M479) [(0, .ref (w_adr E.2.1 12 0)), (1, .int x1)] kX13_nameIn_c0.2.2.2.2.2.2.1 (Nat.le_of_ble_eq_true rfl) ⟨⟨rfl, rfl, .inl rfl⟩, ⟨⟨rfl, rfl, .inr rfl⟩, trivial⟩⟩ rfl ?_
  refine kz_aload_n (M := kt_M479) kX13_nameIn_c0.2.2.2.2.2.2.2.1 rfl ?_
  refine kz_gfc (M := kt_M479) (x := 4104) (c := 12) (o := 0) kX13_nameIn_c1.1 wf_X13_205 (.inl rfl) ?_
  refine kz_aload_n (M := kt_M479) kX13_nameIn_c1.2.1 rfl ?_
  refine kz_gfc (M := kt_M479) (x := 4101) (c := 12) (o := 0) kX13_nameIn_c1.2.2.1 wf_X13_196 (.inl rfl) ?_
  refine kz_iload_n (M := kt_M479) kX13_nameIn_c1.2.2.2.1 rfl ?_
  refine kz_iald (M := kt_M479) (c := 12) (o := 0) (k := 29) (a := (E.2.1 4101)) kX13_nameIn_c1.2.2.2.2.1 ow_12_0_29 oa_12_0_29 ot_0 h (fun h => ?_)
  refine kz_iald (M := kt_M479) (c := 12) (o := 0) (k := 32) (a := (E.2.1 4104)) kX13_nameIn_c1.2.2.2.2.2.1 ow_12_0_32 oa_12_0_32 ot_0 h (fun h => ?_)
  refine kz_ic (M := kt_M479) (-1) kX13_nameIn_c1.2.2.2.2.2.2.1 rfl ?_
  refine kz_icmp_ne (M := kt_M479) kX13_nameIn_c1.2.2.2.2.2.2.2.1 (t := 30) rfl h (fun h => ?_) (fun h => ?_)
  · skip
    refine kz_ic (M := kt_M479) 0 kX13_nameIn_c2.2.2.1 rfl ?_
    exact kz_weak [(0, .ref (w_adr E.2.1 12 0)), (1, .int x1), (2, .int v2)] ⟨rfl, ⟨rfl, ⟨rfl, trivial⟩⟩⟩ rfl (zt_X13_nameIn_p31 hL  h)
  · skip
    refine kz_ic (M := kt_M479) 1 kX13_nameIn_c2.1 rfl ?_
    refine kz_goto (M := kt_M479) kX13_nameIn_c2.2.1 (t := 31) rfl ?_
    exact kz_weak [(0, .ref (w_adr E.2.1 12 0)), (1, .int x1), (2, .int v2)] ⟨rfl, ⟨rfl, ⟨rfl, trivial⟩⟩⟩ rfl (zt_X13_nameIn_p31 hL  h)
def zL_X13_nameOut_p123 (E : zE) (L : Nat) (Q : kx_Rs → wS → Prop) (x2 : Int32) (w : wS) : Prop := kzE E L kt_M481 123 [(0, .ref (w_adr E.2.1 12 0)), (2, .int x2)] [] w Q
def zb_X13_nameOut_p123 (E : zE) (L : Nat) (Q : kx_Rs → wS → Prop) (x2 : Int32) (w : wS) : Prop := (if x2 < 0 then Q (.inl none) w else zw E (L - 24) kt_M476 [.ref (w_adr E.2.1 12 0), .int x2, .int 0] w (wk0 (fun w1 => wle w w1 → (kx_inb x2 (w_n w1 12 0 32) = true ∧ zL_X13_nameOut_p123 E L Q (w_a w1 12 0 32 (x2).toNatClampNeg) w1)) (fun e w => Q (.inr e) w)))
theorem zt_X13_nameOut_p123 {E : zE} {L : Nat} {Q : kx_Rs → wS → Prop} {x2 : Int32} {w : wS} (hL : 24 ≤ L) (h : zb_X13_nameOut_p123 E L Q x2 w) : kzE E L kt_M481 123 [(0, .ref (w_adr E.2.1 12 0)), (2, .int x2)] [] w Q := by
  unfold zb_X13_nameOut_p123 at h
  refine kz_iload_n (M := kt_M481) kX13_nameOut_c9.2.2.1 rfl ?_
  refine kz_if_lt (M := kt_M481) kX13_nameOut_c9.2.2.2.1 (t := 143) rfl h (fun h => ?_) (fun h => ?_)
  · skip
    exact kz_ret (M := kt_M481) kX13_nameOut_c10.2.2.2.2.2.2.1 rfl h
  · skip
    refine kz_aload_n (M := kt_M481) kX13_nameOut_c9.2.2.2.2.1 rfl ?_
    refine kz_iload_n (M := kt_M481) kX13_nameOut_c9.2.2.2.2.2.1 rfl ?_
    refine kz_ic (M := kt_M481) 0 kX13_nameOut_c9.2.2.2.2.2.2.1 rfl ?_
    refine kz_cv0 (M := kt_M481) (c := 12) (o := 0) (As := [.int x2, .int 0]) (rest := []) kX13_nameOut_c9.2.2.2.2.2.2.2.1 wl_X13_743 wMv_476 rfl (.inl rfl) rfl (Nat.le_trans (Nat.le_of_ble_eq_true rfl) hL) (Nat.le_of_ble_eq_true rfl) (Nat.le_of_ble_eq_true rfl) h (fun w1 hle h => ?_) (fun _ _ _ h => kzx_no rfl h)
    have h := h hle
    refine kz_aload_n (M := kt_M481) kX13_nameOut_c10.1 rfl ?_
    refine kz_gfc (M := kt_M481) (x := 4104) (c := 12) (o := 0) kX13_nameOut_c10.2.1 wf_X13_205 (.inl rfl) ?_
    refine kz_iload_n (M := kt_M481) kX13_nameOut_c10.2.2.1 rfl ?_
    refine kz_iald (M := kt_M481) (c := 12) (o := 0) (k := 32) (a := (E.2.1 4104)) kX13_nameOut_c10.2.2.2.1 ow_12_0_32 oa_12_0_32 ot_0 h (fun h => ?_)
    refine kz_sti_n (M := kt_M481) [(0, .ref (w_adr E.2.1 12 0))] kX13_nameOut_c10.2.2.2.2.1 (Nat.le_of_ble_eq_true rfl) ⟨⟨rfl, rfl, .inl rfl⟩, trivial⟩ rfl ?_
    refine kz_goto (M := kt_M481) kX13_nameOut_c10.2.2.2.2.2.1 (t := 123) rfl ?_
    exact kz_weak [(0, .ref (w_adr E.2.1 12 0)), (2, .int (w_a w1 12 0 32 (x2).toNatClampNeg))] ⟨rfl, ⟨rfl, trivial⟩⟩ rfl h
def zb_X13_nameOut_p116 (E : zE) (L : Nat) (Q : kx_Rs → wS → Prop) (x2 : Int32) (w : wS) : Prop := (kx_inb x2 (w_n w 12 0 32) = true ∧ zL_X13_nameOut_p123 E L Q (w_a w 12 0 32 (x2).toNatClampNeg) w)
theorem zt_X13_nameOut_p116 {E : zE} {L : Nat} {Q : kx_Rs → wS → Prop} {x2 : Int32} {w : wS} (hL : 24 ≤ L) (h : zb_X13_nameOut_p116 E L Q x2 w) : kzE E L kt_M481 116 [(0, .ref (w_adr E.2.1 12 0)), (2, .int x2)] [] w Q := by
  unfold zb_X13_nameOut_p116 at h
  refine kz_aload_n (M := kt_M481) kX13_nameOut_c8.2.2.2.2.2.1 rfl ?_
  refine kz_gfc (M := kt_M481) (x := 4104) (c := 12) (o := 0) kX13_nameOut_c8.2.2.2.2.2.2.1 wf_X13_205 (.inl rfl) ?_
  refine kz_iload_n (M := kt_M481) kX13_nameOut_c8.2.2.2.2.2.2.2.1 rfl ?_
  refine kz_iald (M := kt_M481) (c := 12) (o := 0) (k := 32) (a := (E.2.1 4104)) kX13_nameOut_c9.1 ow_12_0_32 oa_12_0_32 ot_0 h (fun h => ?_)
  refine kz_sti_n (M := kt_M481) [(0, .ref (w_adr E.2.1 12 0))] kX13_nameOut_c9.2.1 (Nat.le_of_ble_eq_true rfl) ⟨⟨rfl, rfl, .inl rfl⟩, trivial⟩ rfl ?_
  exact kz_weak [(0, .ref (w_adr E.2.1 12 0)), (2, .int (w_a w 12 0 32 (x2).toNatClampNeg))] ⟨rfl, ⟨rfl, trivial⟩⟩ rfl h
def zb_X13_nameOut_p0 (E : zE) (L : Nat) (Q : kx_Rs → wS → Prop) (x1 : Int32) (w : wS) : Prop := (kx_inb x1 (w_n w 12 0 28) = true ∧ zw E (L - 23) kt_M472 [.ref (w_adr E.2.1 12 0), .int (w_a w 12 0 28 (x1).toNatClampNeg), .int 3] w (wk0 (fun w1 => wle w w1 → (kx_inb x1 (w_n w1 12 0 29) = true ∧ (kx_inb x1 (w_n w1 12 0 28) = true ∧ (kx_inb (w_a w1 12 0 28 (x1).toNatClampNeg) (w_n w1 12 0 31) = true ∧ zw E (L - 21) kt_M427 [.ref (w_adr E.2.1 12 0), .int (w_a w1 12 0 31 (w_a w1 12 0 28 (x1).toNatClampNeg).toNatClampNeg)] w1 (wk1 (fun v4 w3 => wle w1 w3 → (if v4 = 0 then zL_X13_nameOut_p123 E L Q (w_a w1 12 0 29 (x1).toNatClampNeg) w3 else (kx_inb (w_a w1 12 0 29 (x1).toNatClampNeg) (w_n w3 12 0 26) = true ∧ (if ¬ w_a w3 12 0 26 (w_a w1 12 0 29 (x1).toNatClampNeg).toNatClampNeg = 60 then zL_X13_nameOut_p123 E L Q (w_a w1 12 0 29 (x1).toNatClampNeg) w3 else (kx_inb (w_a w1 12 0 29 (x1).toNatClampNeg) (w_n w3 12 0 28) = true ∧ (if ¬ w_a w3 12 0 28 (w_a w1 12 0 29 (x1).toNatClampNeg).toNatClampNeg = (-1) then zL_X13_nameOut_p123 E L Q (w_a w1 12 0 29 (x1).toNatClampNeg) w3 else (kx_inb (w_a w1 12 0 29 (x1).toNatClampNeg) (w_n w3 12 0 30) = true ∧ (kx_inb (w_a w1 12 0 29 (x1).toNatClampNeg) (w_n w3 12 0 27) = true ∧ zw E (L - 23) kt_M411 [.ref (w_adr E.2.1 12 0), .int (w_a w3 12 0 30 (w_a w1 12 0 29 (x1).toNatClampNeg).toNatClampNeg), .int (w_a w3 12 0 27 (w_a w1 12 0 29 (x1).toNatClampNeg).toNatClampNeg)] w3 (wk1 (fun v6 w5 => wle w3 w5 → (kx_inb (w_a w1 12 0 29 (x1).toNatClampNeg) (w_n w5 12 0 31) = true ∧ (kx_inb (w_a w1 12 0 29 (x1).toNatClampNeg) (w_n w5 12 0 31) = true ∧ (if w_a (ws_a w5 12 0 31 (w_a w1 12 0 29 (x1).toNatClampNeg).toNatClampNeg v6) 12 0 31 (w_a w1 12 0 29 (x1).toNatClampNeg).toNatClampNeg < 0 then zb_X13_nameOut_p116 E L Q (w_a w1 12 0 29 (x1).toNatClampNeg) (ws_a w5 12 0 31 (w_a w1 12 0 29 (x1).toNatClampNeg).toNatClampNeg v6) else (kx_inb (w_a w1 12 0 29 (x1).toNatClampNeg) (w_n w5 12 0 31) = true ∧ (kx_inb (w_a (ws_a w5 12 0 31 (w_a w1 12 0 29 (x1).toNatClampNeg).toNatClampNeg v6) 12 0 31 (w_a w1 12 0 29 (x1).toNatClampNeg).toNatClampNeg) (w_n w5 12 0 46) = true ∧ (if w_a w5 12 0 46 (w_a (ws_a w5 12 0 31 (w_a w1 12 0 29 (x1).toNatClampNeg).toNatClampNeg v6) 12 0 31 (w_a w1 12 0 29 (x1).toNatClampNeg).toNatClampNeg).toNatClampNeg = 6 then zb_X13_nameOut_p116 E L Q (w_a w1 12 0 29 (x1).toNatClampNeg) (ws_a w5 12 0 31 (w_a w1 12 0 29 (x1).toNatClampNeg).toNatClampNeg v6) else (kx_inb (w_a w1 12 0 29 (x1).toNatClampNeg) (w_n w5 12 0 27) = true ∧ zw E (L - 22) kt_M560 [.ref (w_adr E.2.1 12 0), .int 6, .int (w_a w5 12 0 27 (w_a w1 12 0 29 (x1).toNatClampNeg).toNatClampNeg)] (ws_a w5 12 0 31 (w_a w1 12 0 29 (x1).toNatClampNeg).toNatClampNeg v6) (wk0 (fun w7 => wle (ws_a w5 12 0 31 (w_a w1 12 0 29 (x1).toNatClampNeg).toNatClampNeg v6) w7 → zb_X13_nameOut_p116 E L Q (w_a w1 12 0 29 (x1).toNatClampNeg) w7) (fun e w => Q (.inr e) w)))))))))) (fun e w => Q (.inr e) w)))))))))) (fun e w => Q (.inr e) w)))))) (fun e w => Q (.inr e) w)))
theorem zt_X13_nameOut_p0 {E : zE} {L : Nat} {Q : kx_Rs → wS → Prop} {x1 : Int32} {w : wS} (hL : 24 ≤ L) (h : zb_X13_nameOut_p0 E L Q x1 w) : kzE E L kt_M481 0 [(0, .ref (w_adr E.2.1 12 0)), (1, .int x1)] [] w Q := by
  unfold zb_X13_nameOut_p0 at h
  refine kz_aload_n (M := kt_M481) kX13_nameOut_c0.1 rfl ?_
  refine kz_aload_n (M := kt_M481) kX13_nameOut_c0.2.1 rfl ?_
  refine kz_gfc (M := kt_M481) (x := 4100) (c := 12) (o := 0) kX13_nameOut_c0.2.2.1 wf_X13_193 (.inl rfl) ?_
  refine kz_iload_n (M := kt_M481) kX13_nameOut_c0.2.2.2.1 rfl ?_
  refine kz_iald (M := kt_M481) (c := 12) (o := 0) (k := 28) (a := (E.2.1 4100)) kX13_nameOut_c0.2.2.2.2.1 ow_12_0_28 oa_12_0_28 ot_0 h (fun h => ?_)
  refine kz_ic (M := kt_M481) 3 kX13_nameOut_c0.2.2.2.2.2.1 rfl ?_
  refine kz_cv0 (M := kt_M481) (c := 12) (o := 0) (As := [.int (w_a w 12 0 28 (x1).toNatClampNeg), .int 3]) (rest := []) kX13_nameOut_c0.2.2.2.2.2.2.1 wl_X13_766 wMv_472 rfl (.inl rfl) rfl (Nat.le_trans (Nat.le_of_ble_eq_true rfl) hL) (Nat.le_of_ble_eq_true rfl) (Nat.le_of_ble_eq_true rfl) h (fun w1 hle h => ?_) (fun _ _ _ h => kzx_no rfl h)
  have h := h hle
  refine kz_aload_n (M := kt_M481) kX13_nameOut_c0.2.2.2.2.2.2.2.1 rfl ?_
  refine kz_gfc (M := kt_M481) (x := 4101) (c := 12) (o := 0) kX13_nameOut_c1.1 wf_X13_196 (.inl rfl) ?_
  refine kz_iload_n (M := kt_M481) kX13_nameOut_c1.2.1 rfl ?_
  refine kz_iald (M := kt_M481) (c := 12) (o := 0) (k := 29) (a := (E.2.1 4101)) kX13_nameOut_c1.2.2.1 ow_12_0_29 oa_12_0_29 ot_0 h (fun h => ?_)
  refine kz_sti_n (M := kt_M481) [(0, .ref (w_adr E.2.1 12 0)), (1, .int x1)] kX13_nameOut_c1.2.2.2.1 (Nat.le_of_ble_eq_true rfl) ⟨⟨rfl, rfl, .inl rfl⟩, ⟨⟨rfl, rfl, .inr rfl⟩, trivial⟩⟩ rfl ?_
  refine kz_aload_n (M := kt_M481) kX13_nameOut_c1.2.2.2.2.1 rfl ?_
  refine kz_aload_n (M := kt_M481) kX13_nameOut_c1.2.2.2.2.2.1 rfl ?_
  refine kz_gfc (M := kt_M481) (x := 4103) (c := 12) (o := 0) kX13_nameOut_c1.2.2.2.2.2.2.1 wf_X13_202 (.inl rfl) ?_
  refine kz_aload_n (M := kt_M481) kX13_nameOut_c1.2.2.2.2.2.2.2.1 rfl ?_
  refine kz_gfc (M := kt_M481) (x := 4100) (c := 12) (o := 0) kX13_nameOut_c2.1 wf_X13_193 (.inl rfl) ?_
  refine kz_iload_n (M := kt_M481) kX13_nameOut_c2.2.1 rfl ?_
  refine kz_iald (M := kt_M481) (c := 12) (o := 0) (k := 28) (a := (E.2.1 4100)) kX13_nameOut_c2.2.2.1 ow_12_0_28 oa_12_0_28 ot_0 h (fun h => ?_)
  refine kz_iald (M := kt_M481) (c := 12) (o := 0) (k := 31) (a := (E.2.1 4103)) kX13_nameOut_c2.2.2.2.1 ow_12_0_31 oa_12_0_31 ot_0 h (fun h => ?_)
  refine kz_cv1 (M := kt_M481) (c := 12) (o := 0) (As := [.int (w_a w1 12 0 31 (w_a w1 12 0 28 (x1).toNatClampNeg).toNatClampNeg)]) (rest := []) kX13_nameOut_c2.2.2.2.2.1 wl_X13_784 wMv_427 rfl (.inl rfl) rfl (Nat.le_trans (Nat.le_of_ble_eq_true rfl) hL) (Nat.le_of_ble_eq_true rfl) (Nat.le_of_ble_eq_true rfl) h (fun v4 w3 hle h => ?_) (fun _ _ _ h => kzx_no rfl h)
  have h := h hle
  refine kz_if_eq (M := kt_M481) kX13_nameOut_c2.2.2.2.2.2.1 (t := 123) rfl h (fun h => ?_) (fun h => ?_)
  · skip
    exact kz_weak [(0, .ref (w_adr E.2.1 12 0)), (2, .int (w_a w1 12 0 29 (x1).toNatClampNeg))] ⟨rfl, ⟨rfl, trivial⟩⟩ rfl h
  · skip
    refine kz_aload_n (M := kt_M481) kX13_nameOut_c2.2.2.2.2.2.2.1 rfl ?_
    refine kz_gfc (M := kt_M481) (x := 4098) (c := 12) (o := 0) kX13_nameOut_c2.2.2.2.2.2.2.2.1 wf_X13_187 (.inl rfl) ?_
    refine kz_iload_n (M := kt_M481) kX13_nameOut_c3.1 rfl ?_
    refine kz_iald (M := kt_M481) (c := 12) (o := 0) (k := 26) (a := (E.2.1 4098)) kX13_nameOut_c3.2.1 ow_12_0_26 oa_12_0_26 ot_0 h (fun h => ?_)
    refine kz_bi (M := kt_M481) 60 kX13_nameOut_c3.2.2.1 rfl ?_
    refine kz_icmp_ne (M := kt_M481) kX13_nameOut_c3.2.2.2.1 (t := 123) rfl h (fun h => ?_) (fun h => ?_)
    · skip
      exact kz_weak [(0, .ref (w_adr E.2.1 12 0)), (2, .int (w_a w1 12 0 29 (x1).toNatClampNeg))] ⟨rfl, ⟨rfl, trivial⟩⟩ rfl h
    · skip
      refine kz_aload_n (M := kt_M481) kX13_nameOut_c3.2.2.2.2.1 rfl ?_
      refine kz_gfc (M := kt_M481) (x := 4100) (c := 12) (o := 0) kX13_nameOut_c3.2.2.2.2.2.1 wf_X13_193 (.inl rfl) ?_
      refine kz_iload_n (M := kt_M481) kX13_nameOut_c3.2.2.2.2.2.2.1 rfl ?_
      refine kz_iald (M := kt_M481) (c := 12) (o := 0) (k := 28) (a := (E.2.1 4100)) kX13_nameOut_c3.2.2.2.2.2.2.2.1 ow_12_0_28 oa_12_0_28 ot_0 h (fun h => ?_)
      refine kz_ic (M := kt_M481) (-1) kX13_nameOut_c4.1 rfl ?_
      refine kz_icmp_ne (M := kt_M481) kX13_nameOut_c4.2.1 (t := 123) rfl h (fun h => ?_) (fun h => ?_)
      · skip
        exact kz_weak [(0, .ref (w_adr E.2.1 12 0)), (2, .int (w_a w1 12 0 29 (x1).toNatClampNeg))] ⟨rfl, ⟨rfl, trivial⟩⟩ rfl h
      · skip
        refine kz_aload_n (M := kt_M481) kX13_nameOut_c4.2.2.1 rfl ?_
        refine kz_gfc (M := kt_M481) (x := 4103) (c := 12) (o := 0) kX13_nameOut_c4.2.2.2.1 wf_X13_202 (.inl rfl) ?_
        refine kz_iload_n (M := kt_M481) kX13_nameOut_c4.2.2.2.2.1 rfl ?_
        refine kz_aload_n (M := kt_M481) kX13_nameOut_c4.2.2.2.2.2.1 rfl ?_
        refine kz_aload_n (M := kt_M481) kX13_nameOut_c4.2.2.2.2.2.2.1 rfl ?_
        refine kz_gfc (M := kt_M481) (x := 4102) (c := 12) (o := 0) kX13_nameOut_c4.2.2.2.2.2.2.2.1 wf_X13_199 (.inl rfl) ?_
        refine kz_iload_n (M := kt_M481) kX13_nameOut_c5.1 rfl ?_
        refine kz_iald (M := kt_M481) (c := 12) (o := 0) (k := 30) (a := (E.2.1 4102)) kX13_nameOut_c5.2.1 ow_12_0_30 oa_12_0_30 ot_0 h (fun h => ?_)
        refine kz_aload_n (M := kt_M481) kX13_nameOut_c5.2.2.1 rfl ?_
        refine kz_gfc (M := kt_M481) (x := 4099) (c := 12) (o := 0) kX13_nameOut_c5.2.2.2.1 wf_X13_190 (.inl rfl) ?_
        refine kz_iload_n (M := kt_M481) kX13_nameOut_c5.2.2.2.2.1 rfl ?_
        refine kz_iald (M := kt_M481) (c := 12) (o := 0) (k := 27) (a := (E.2.1 4099)) kX13_nameOut_c5.2.2.2.2.2.1 ow_12_0_27 oa_12_0_27 ot_0 h (fun h => ?_)
        refine kz_cv1 (M := kt_M481) (c := 12) (o := 0) (As := [.int (w_a w3 12 0 30 (w_a w1 12 0 29 (x1).toNatClampNeg).toNatClampNeg), .int (w_a w3 12 0 27 (w_a w1 12 0 29 (x1).toNatClampNeg).toNatClampNeg)]) (rest := [.int (w_a w1 12 0 29 (x1).toNatClampNeg), .ref (E.2.1 4103)]) kX13_nameOut_c5.2.2.2.2.2.2.1 wl_X13_740 wMv_411 rfl (.inl rfl) rfl (Nat.le_trans (Nat.le_of_ble_eq_true rfl) hL) (Nat.le_of_ble_eq_true rfl) (Nat.le_of_ble_eq_true rfl) h (fun v6 w5 hle h => ?_) (fun _ _ _ h => kzx_no rfl h)
        have h := h hle
        refine kz_iast (M := kt_M481) (c := 12) (o := 0) (k := 31) (a := (E.2.1 4103)) kX13_nameOut_c5.2.2.2.2.2.2.2.1 ow_12_0_31 oa_12_0_31 ot_0 h (fun h => ?_)
        refine kz_aload_n (M := kt_M481) kX13_nameOut_c6.1 rfl ?_
        refine kz_gfc (M := kt_M481) (x := 4103) (c := 12) (o := 0) kX13_nameOut_c6.2.1 wf_X13_202 (.inl rfl) ?_
        refine kz_iload_n (M := kt_M481) kX13_nameOut_c6.2.2.1 rfl ?_
        refine kz_ialdR (M := kt_M481) (n := w_n w5 12 0 31) (c := 12) (o := 0) (k := 31) (a := (E.2.1 4103)) (w_a (ws_a w5 12 0 31 (w_a w1 12 0 29 (x1).toNatClampNeg).toNatClampNeg v6) 12 0 31 (w_a w1 12 0 29 (x1).toNatClampNeg).toNatClampNeg) kX13_nameOut_c6.2.2.2.1 ow_12_0_31 oa_12_0_31 ot_0 rd_n_a rfl h (fun h => ?_)
        refine kz_if_lt (M := kt_M481) kX13_nameOut_c6.2.2.2.2.1 (t := 116) rfl h (fun h => ?_) (fun h => ?_)
        · skip
          exact kz_weak [(0, .ref (w_adr E.2.1 12 0)), (2, .int (w_a w1 12 0 29 (x1).toNatClampNeg))] ⟨rfl, ⟨rfl, trivial⟩⟩ rfl (zt_X13_nameOut_p116 hL  h)
        · skip
          refine kz_aload_n (M := kt_M481) kX13_nameOut_c6.2.2.2.2.2.1 rfl ?_
          refine kz_gfc (M := kt_M481) (x := 4118) (c := 12) (o := 0) kX13_nameOut_c6.2.2.2.2.2.2.1 wf_X13_223 (.inl rfl) ?_
          refine kz_aload_n (M := kt_M481) kX13_nameOut_c6.2.2.2.2.2.2.2.1 rfl ?_
          refine kz_gfc (M := kt_M481) (x := 4103) (c := 12) (o := 0) kX13_nameOut_c7.1 wf_X13_202 (.inl rfl) ?_
          refine kz_iload_n (M := kt_M481) kX13_nameOut_c7.2.1 rfl ?_
          refine kz_ialdR (M := kt_M481) (n := w_n w5 12 0 31) (c := 12) (o := 0) (k := 31) (a := (E.2.1 4103)) (w_a (ws_a w5 12 0 31 (w_a w1 12 0 29 (x1).toNatClampNeg).toNatClampNeg v6) 12 0 31 (w_a w1 12 0 29 (x1).toNatClampNeg).toNatClampNeg) kX13_nameOut_c7.2.2.1 ow_12_0_31 oa_12_0_31 ot_0 rd_n_a rfl h (fun h => ?_)
          refine kz_ialdR (M := kt_M481) (n := w_n w5 12 0 46) (c := 12) (o := 0) (k := 46) (a := (E.2.1 4118)) (w_a w5 12 0 46 (w_a (ws_a w5 12 0 31 (w_a w1 12 0 29 (x1).toNatClampNeg).toNatClampNeg v6) 12 0 31 (w_a w1 12 0 29 (x1).toNatClampNeg).toNatClampNeg).toNatClampNeg) kX13_nameOut_c7.2.2.2.1 ow_12_0_46 oa_12_0_46 ot_0 rd_n_a (rd_a_a rfl) h (fun h => ?_)
          refine kz_bi (M := kt_M481) 6 kX13_nameOut_c7.2.2.2.2.1 rfl ?_
          refine kz_icmp_eq (M := kt_M481) kX13_nameOut_c7.2.2.2.2.2.1 (t := 116) rfl h (fun h => ?_) (fun h => ?_)
          · skip
            exact kz_weak [(0, .ref (w_adr E.2.1 12 0)), (2, .int (w_a w1 12 0 29 (x1).toNatClampNeg))] ⟨rfl, ⟨rfl, trivial⟩⟩ rfl (zt_X13_nameOut_p116 hL  h)
          · skip
            refine kz_aload_n (M := kt_M481) kX13_nameOut_c7.2.2.2.2.2.2.1 rfl ?_
            refine kz_bi (M := kt_M481) 6 kX13_nameOut_c7.2.2.2.2.2.2.2.1 rfl ?_
            refine kz_aload_n (M := kt_M481) kX13_nameOut_c8.1 rfl ?_
            refine kz_gfc (M := kt_M481) (x := 4099) (c := 12) (o := 0) kX13_nameOut_c8.2.1 wf_X13_190 (.inl rfl) ?_
            refine kz_iload_n (M := kt_M481) kX13_nameOut_c8.2.2.1 rfl ?_
            refine kz_ialdR (M := kt_M481) (n := w_n w5 12 0 27) (c := 12) (o := 0) (k := 27) (a := (E.2.1 4099)) (w_a w5 12 0 27 (w_a w1 12 0 29 (x1).toNatClampNeg).toNatClampNeg) kX13_nameOut_c8.2.2.2.1 ow_12_0_27 oa_12_0_27 ot_0 rd_n_a (rd_a_a rfl) h (fun h => ?_)
            refine kz_cv0 (M := kt_M481) (c := 12) (o := 0) (As := [.int 6, .int (w_a w5 12 0 27 (w_a w1 12 0 29 (x1).toNatClampNeg).toNatClampNeg)]) (rest := []) kX13_nameOut_c8.2.2.2.2.1 wl_X13_734 wMv_560 rfl (.inl rfl) rfl (Nat.le_trans (Nat.le_of_ble_eq_true rfl) hL) (Nat.le_of_ble_eq_true rfl) (Nat.le_of_ble_eq_true rfl) h (fun w7 hle h => ?_) (fun _ _ _ h => kzx_no rfl h)
            have h := h hle
            exact kz_weak [(0, .ref (w_adr E.2.1 12 0)), (2, .int (w_a w1 12 0 29 (x1).toNatClampNeg))] ⟨rfl, ⟨rfl, trivial⟩⟩ rfl (zt_X13_nameOut_p116 hL  h)
def zb_X13_hasTags_p54 (E : zE) (L : Nat) (Q : kx_Rs → wS → Prop) (y0 : Int32) (w : wS) : Prop := ((y0 = 0 ∨ y0 = 1) ∧ Q (.inl (some (.int y0))) w)
theorem zt_X13_hasTags_p54 {E : zE} {L : Nat} {Q : kx_Rs → wS → Prop} {y0 : Int32} {w : wS} (hL : 19 ≤ L) (h : zb_X13_hasTags_p54 E L Q y0 w) : kzE E L kt_M427 54 [(0, .ref (w_adr E.2.1 12 0))] [.int y0] w Q := by
  unfold zb_X13_hasTags_p54 at h
  exact kz_iretz (M := kt_M427) kX13_hasTags_c3.2.2.2.2.2.2.2.1 rfl h.1 h.2
def zb_X13_hasTags_p53 (E : zE) (L : Nat) (Q : kx_Rs → wS → Prop) (w : wS) : Prop := zb_X13_hasTags_p54 E L Q 0 w
theorem zt_X13_hasTags_p53 {E : zE} {L : Nat} {Q : kx_Rs → wS → Prop} {w : wS} (hL : 19 ≤ L) (h : zb_X13_hasTags_p53 E L Q  w) : kzE E L kt_M427 53 [(0, .ref (w_adr E.2.1 12 0))] [] w Q := by
  unfold zb_X13_hasTags_p53 at h
  refine kz_ic (M := kt_M427) 0 kX13_hasTags_c3.2.2.2.2.2.2.1 rfl ?_
  exact kz_weak [(0, .ref (w_adr E.2.1 12 0))] ⟨rfl, trivial⟩ rfl (zt_X13_hasTags_p54 hL  h)
def zb_X13_hasTags_p0 (E : zE) (L : Nat) (Q : kx_Rs → wS → Prop) (x1 : Int32) (w : wS) : Prop := (if x1 < 0 then zb_X13_hasTags_p53 E L Q w else (kx_inb x1 (w_n w 12 0 46) = true ∧ (if ¬ w_a w 12 0 46 (x1).toNatClampNeg = 3 then zb_X13_hasTags_p53 E L Q w else (kx_inb x1 (w_n w 12 0 47) = true ∧ (if w_a w 12 0 47 (x1).toNatClampNeg < 16 then zb_X13_hasTags_p53 E L Q w else (kx_inb x1 (w_n w 12 0 47) = true ∧ (kx_inb ((w_a w 12 0 47 (x1).toNatClampNeg) - 16) (w_n w 12 0 49) = true ∧ (kx_inb (w_a w 12 0 49 (((w_a w 12 0 47 (x1).toNatClampNeg) - 16)).toNatClampNeg) (w_n w 12 0 26) = true ∧ (if ¬ w_a w 12 0 26 (w_a w 12 0 49 (((w_a w 12 0 47 (x1).toNatClampNeg) - 16)).toNatClampNeg).toNatClampNeg = 36 then zb_X13_hasTags_p53 E L Q w else zb_X13_hasTags_p54 E L Q 1 w)))))))))
theorem zt_X13_hasTags_p0 {E : zE} {L : Nat} {Q : kx_Rs → wS → Prop} {x1 : Int32} {w : wS} (hL : 19 ≤ L) (h : zb_X13_hasTags_p0 E L Q x1 w) : kzE E L kt_M427 0 [(0, .ref (w_adr E.2.1 12 0)), (1, .int x1)] [] w Q := by
  unfold zb_X13_hasTags_p0 at h
  refine kz_iload_n (M := kt_M427) kX13_hasTags_c0.1 rfl ?_
  refine kz_if_lt (M := kt_M427) kX13_hasTags_c0.2.1 (t := 53) rfl h (fun h => ?_) (fun h => ?_)
  · skip
    exact kz_weak [(0, .ref (w_adr E.2.1 12 0))] ⟨rfl, trivial⟩ rfl (zt_X13_hasTags_p53 hL  h)
  · skip
    refine kz_aload_n (M := kt_M427) kX13_hasTags_c0.2.2.1 rfl ?_
    refine kz_gfc (M := kt_M427) (x := 4118) (c := 12) (o := 0) kX13_hasTags_c0.2.2.2.1 wf_X13_223 (.inl rfl) ?_
    refine kz_iload_n (M := kt_M427) kX13_hasTags_c0.2.2.2.2.1 rfl ?_
    refine kz_iald (M := kt_M427) (c := 12) (o := 0) (k := 46) (a := (E.2.1 4118)) kX13_hasTags_c0.2.2.2.2.2.1 ow_12_0_46 oa_12_0_46 ot_0 h (fun h => ?_)
    refine kz_ic (M := kt_M427) 3 kX13_hasTags_c0.2.2.2.2.2.2.1 rfl ?_
    refine kz_icmp_ne (M := kt_M427) kX13_hasTags_c0.2.2.2.2.2.2.2.1 (t := 53) rfl h (fun h => ?_) (fun h => ?_)
    · skip
      exact kz_weak [(0, .ref (w_adr E.2.1 12 0))] ⟨rfl, trivial⟩ rfl (zt_X13_hasTags_p53 hL  h)
    · skip
      refine kz_aload_n (M := kt_M427) kX13_hasTags_c1.1 rfl ?_
      refine kz_gfc (M := kt_M427) (x := 4119) (c := 12) (o := 0) kX13_hasTags_c1.2.1 wf_X13_226 (.inl rfl) ?_
      refine kz_iload_n (M := kt_M427) kX13_hasTags_c1.2.2.1 rfl ?_
      refine kz_iald (M := kt_M427) (c := 12) (o := 0) (k := 47) (a := (E.2.1 4119)) kX13_hasTags_c1.2.2.2.1 ow_12_0_47 oa_12_0_47 ot_0 h (fun h => ?_)
      refine kz_bi (M := kt_M427) 16 kX13_hasTags_c1.2.2.2.2.1 rfl ?_
      refine kz_icmp_lt (M := kt_M427) kX13_hasTags_c1.2.2.2.2.2.1 (t := 53) rfl h (fun h => ?_) (fun h => ?_)
      · skip
        exact kz_weak [(0, .ref (w_adr E.2.1 12 0))] ⟨rfl, trivial⟩ rfl (zt_X13_hasTags_p53 hL  h)
      · skip
        refine kz_aload_n (M := kt_M427) kX13_hasTags_c1.2.2.2.2.2.2.1 rfl ?_
        refine kz_gfc (M := kt_M427) (x := 4098) (c := 12) (o := 0) kX13_hasTags_c1.2.2.2.2.2.2.2.1 wf_X13_187 (.inl rfl) ?_
        refine kz_aload_n (M := kt_M427) kX13_hasTags_c2.1 rfl ?_
        refine kz_gfc (M := kt_M427) (x := 4121) (c := 12) (o := 0) kX13_hasTags_c2.2.1 wf_X13_232 (.inl rfl) ?_
        refine kz_aload_n (M := kt_M427) kX13_hasTags_c2.2.2.1 rfl ?_
        refine kz_gfc (M := kt_M427) (x := 4119) (c := 12) (o := 0) kX13_hasTags_c2.2.2.2.1 wf_X13_226 (.inl rfl) ?_
        refine kz_iload_n (M := kt_M427) kX13_hasTags_c2.2.2.2.2.1 rfl ?_
        refine kz_iald (M := kt_M427) (c := 12) (o := 0) (k := 47) (a := (E.2.1 4119)) kX13_hasTags_c2.2.2.2.2.2.1 ow_12_0_47 oa_12_0_47 ot_0 h (fun h => ?_)
        refine kz_bi (M := kt_M427) 16 kX13_hasTags_c2.2.2.2.2.2.2.1 rfl ?_
        refine kz_isub (M := kt_M427) kX13_hasTags_c2.2.2.2.2.2.2.2.1 ?_
        refine kz_iald (M := kt_M427) (c := 12) (o := 0) (k := 49) (a := (E.2.1 4121)) kX13_hasTags_c3.1 ow_12_0_49 oa_12_0_49 ot_0 h (fun h => ?_)
        refine kz_iald (M := kt_M427) (c := 12) (o := 0) (k := 26) (a := (E.2.1 4098)) kX13_hasTags_c3.2.1 ow_12_0_26 oa_12_0_26 ot_0 h (fun h => ?_)
        refine kz_bi (M := kt_M427) 36 kX13_hasTags_c3.2.2.1 rfl ?_
        refine kz_icmp_ne (M := kt_M427) kX13_hasTags_c3.2.2.2.1 (t := 53) rfl h (fun h => ?_) (fun h => ?_)
        · skip
          exact kz_weak [(0, .ref (w_adr E.2.1 12 0))] ⟨rfl, trivial⟩ rfl (zt_X13_hasTags_p53 hL  h)
        · skip
          refine kz_ic (M := kt_M427) 1 kX13_hasTags_c3.2.2.2.2.1 rfl ?_
          refine kz_goto (M := kt_M427) kX13_hasTags_c3.2.2.2.2.2.1 (t := 54) rfl ?_
          exact kz_weak [(0, .ref (w_adr E.2.1 12 0))] ⟨rfl, trivial⟩ rfl (zt_X13_hasTags_p54 hL  h)
def zb_X13_nameReplicator_p0 (E : zE) (L : Nat) (Q : kx_Rs → wS → Prop) (x1 : Int32) (w : wS) : Prop := (kx_inb x1 (w_n w 12 0 28) = true ∧ zw E (L - 24) kt_M476 [.ref (w_adr E.2.1 12 0), .int (w_a w 12 0 28 (x1).toNatClampNeg), .int 0] w (wk0 (fun w1 => wle w w1 → (kx_inb x1 (w_n w1 12 0 29) = true ∧ zw E (L - 24) kt_M476 [.ref (w_adr E.2.1 12 0), .int (w_a w1 12 0 29 (x1).toNatClampNeg), .int 0] w1 (wk0 (fun w3 => wle w1 w3 → (kx_inb x1 (w_n w3 12 0 30) = true ∧ (kx_inb x1 (w_n w3 12 0 27) = true ∧ zw E (L - 28) kt_M550 [.ref (w_adr E.2.1 12 0), .int (w_a w3 12 0 30 (x1).toNatClampNeg), .int 9, .int 0, .int (-1), .int x1, .int (w_a w3 12 0 27 (x1).toNatClampNeg)] w3 (wk1 (fun v6 w5 => wle w3 w5 → (kx_inb x1 (w_n w5 12 0 31) = true ∧ (kx_inb x1 (w_n w5 12 0 31) = true ∧ (kx_inb (w_a (ws_a w5 12 0 31 (x1).toNatClampNeg v6) 12 0 31 (x1).toNatClampNeg) (w_n w5 12 0 55) = true ∧ (kx_inb x1 (w_n w5 12 0 31) = true ∧ zw E (L - 21) kt_M455 [.ref (w_adr E.2.1 12 0), .int (w_a (ws_a w5 12 0 31 (x1).toNatClampNeg v6) 12 0 31 (x1).toNatClampNeg)] (ws_a (ws_a w5 12 0 31 (x1).toNatClampNeg v6) 12 0 55 (w_a (ws_a w5 12 0 31 (x1).toNatClampNeg v6) 12 0 31 (x1).toNatClampNeg).toNatClampNeg x1) (wk0 (fun w7 => wle (ws_a (ws_a w5 12 0 31 (x1).toNatClampNeg v6) 12 0 55 (w_a (ws_a w5 12 0 31 (x1).toNatClampNeg v6) 12 0 31 (x1).toNatClampNeg).toNatClampNeg x1) w7 → Q (.inl none) w7) (fun e w => Q (.inr e) w))))))) (fun e w => Q (.inr e) w))))) (fun e w => Q (.inr e) w)))) (fun e w => Q (.inr e) w)))
theorem zt_X13_nameReplicator_p0 {E : zE} {L : Nat} {Q : kx_Rs → wS → Prop} {x1 : Int32} {w : wS} (hL : 28 ≤ L) (h : zb_X13_nameReplicator_p0 E L Q x1 w) : kzE E L kt_M484 0 [(0, .ref (w_adr E.2.1 12 0)), (1, .int x1)] [] w Q := by
  unfold zb_X13_nameReplicator_p0 at h
  refine kz_aload_n (M := kt_M484) kX13_nameReplicator_c0.1 rfl ?_
  refine kz_aload_n (M := kt_M484) kX13_nameReplicator_c0.2.1 rfl ?_
  refine kz_gfc (M := kt_M484) (x := 4100) (c := 12) (o := 0) kX13_nameReplicator_c0.2.2.1 wf_X13_193 (.inl rfl) ?_
  refine kz_iload_n (M := kt_M484) kX13_nameReplicator_c0.2.2.2.1 rfl ?_
  refine kz_iald (M := kt_M484) (c := 12) (o := 0) (k := 28) (a := (E.2.1 4100)) kX13_nameReplicator_c0.2.2.2.2.1 ow_12_0_28 oa_12_0_28 ot_0 h (fun h => ?_)
  refine kz_ic (M := kt_M484) 0 kX13_nameReplicator_c0.2.2.2.2.2.1 rfl ?_
  refine kz_cv0 (M := kt_M484) (c := 12) (o := 0) (As := [.int (w_a w 12 0 28 (x1).toNatClampNeg), .int 0]) (rest := []) kX13_nameReplicator_c0.2.2.2.2.2.2.1 wl_X13_743 wMv_476 rfl (.inl rfl) rfl (Nat.le_trans (Nat.le_of_ble_eq_true rfl) hL) (Nat.le_of_ble_eq_true rfl) (Nat.le_of_ble_eq_true rfl) h (fun w1 hle h => ?_) (fun _ _ _ h => kzx_no rfl h)
  have h := h hle
  refine kz_aload_n (M := kt_M484) kX13_nameReplicator_c0.2.2.2.2.2.2.2.1 rfl ?_
  refine kz_aload_n (M := kt_M484) kX13_nameReplicator_c1.1 rfl ?_
  refine kz_gfc (M := kt_M484) (x := 4101) (c := 12) (o := 0) kX13_nameReplicator_c1.2.1 wf_X13_196 (.inl rfl) ?_
  refine kz_iload_n (M := kt_M484) kX13_nameReplicator_c1.2.2.1 rfl ?_
  refine kz_iald (M := kt_M484) (c := 12) (o := 0) (k := 29) (a := (E.2.1 4101)) kX13_nameReplicator_c1.2.2.2.1 ow_12_0_29 oa_12_0_29 ot_0 h (fun h => ?_)
  refine kz_ic (M := kt_M484) 0 kX13_nameReplicator_c1.2.2.2.2.1 rfl ?_
  refine kz_cv0 (M := kt_M484) (c := 12) (o := 0) (As := [.int (w_a w1 12 0 29 (x1).toNatClampNeg), .int 0]) (rest := []) kX13_nameReplicator_c1.2.2.2.2.2.1 wl_X13_743 wMv_476 rfl (.inl rfl) rfl (Nat.le_trans (Nat.le_of_ble_eq_true rfl) hL) (Nat.le_of_ble_eq_true rfl) (Nat.le_of_ble_eq_true rfl) h (fun w3 hle h => ?_) (fun _ _ _ h => kzx_no rfl h)
  have h := h hle
  refine kz_aload_n (M := kt_M484) kX13_nameReplicator_c1.2.2.2.2.2.2.1 rfl ?_
  refine kz_gfc (M := kt_M484) (x := 4103) (c := 12) (o := 0) kX13_nameReplicator_c1.2.2.2.2.2.2.2.1 wf_X13_202 (.inl rfl) ?_
  refine kz_iload_n (M := kt_M484) kX13_nameReplicator_c2.1 rfl ?_
  refine kz_aload_n (M := kt_M484) kX13_nameReplicator_c2.2.1 rfl ?_
  refine kz_aload_n (M := kt_M484) kX13_nameReplicator_c2.2.2.1 rfl ?_
  refine kz_gfc (M := kt_M484) (x := 4102) (c := 12) (o := 0) kX13_nameReplicator_c2.2.2.2.1 wf_X13_199 (.inl rfl) ?_
  refine kz_iload_n (M := kt_M484) kX13_nameReplicator_c2.2.2.2.2.1 rfl ?_
  refine kz_iald (M := kt_M484) (c := 12) (o := 0) (k := 30) (a := (E.2.1 4102)) kX13_nameReplicator_c2.2.2.2.2.2.1 ow_12_0_30 oa_12_0_30 ot_0 h (fun h => ?_)
  refine kz_bi (M := kt_M484) 9 kX13_nameReplicator_c2.2.2.2.2.2.2.1 rfl ?_
  refine kz_ic (M := kt_M484) 0 kX13_nameReplicator_c2.2.2.2.2.2.2.2.1 rfl ?_
  refine kz_ic (M := kt_M484) (-1) kX13_nameReplicator_c3.1 rfl ?_
  refine kz_iload_n (M := kt_M484) kX13_nameReplicator_c3.2.1 rfl ?_
  refine kz_aload_n (M := kt_M484) kX13_nameReplicator_c3.2.2.1 rfl ?_
  refine kz_gfc (M := kt_M484) (x := 4099) (c := 12) (o := 0) kX13_nameReplicator_c3.2.2.2.1 wf_X13_190 (.inl rfl) ?_
  refine kz_iload_n (M := kt_M484) kX13_nameReplicator_c3.2.2.2.2.1 rfl ?_
  refine kz_iald (M := kt_M484) (c := 12) (o := 0) (k := 27) (a := (E.2.1 4099)) kX13_nameReplicator_c3.2.2.2.2.2.1 ow_12_0_27 oa_12_0_27 ot_0 h (fun h => ?_)
  refine kz_cv1 (M := kt_M484) (c := 12) (o := 0) (As := [.int (w_a w3 12 0 30 (x1).toNatClampNeg), .int 9, .int 0, .int (-1), .int x1, .int (w_a w3 12 0 27 (x1).toNatClampNeg)]) (rest := [.int x1, .ref (E.2.1 4103)]) kX13_nameReplicator_c3.2.2.2.2.2.2.1 wl_X13_759 wMv_550 rfl (.inl rfl) rfl (Nat.le_trans (Nat.le_of_ble_eq_true rfl) hL) (Nat.le_of_ble_eq_true rfl) (Nat.le_of_ble_eq_true rfl) h (fun v6 w5 hle h => ?_) (fun _ _ _ h => kzx_no rfl h)
  have h := h hle
  refine kz_iast (M := kt_M484) (c := 12) (o := 0) (k := 31) (a := (E.2.1 4103)) kX13_nameReplicator_c3.2.2.2.2.2.2.2.1 ow_12_0_31 oa_12_0_31 ot_0 h (fun h => ?_)
  refine kz_aload_n (M := kt_M484) kX13_nameReplicator_c4.1 rfl ?_
  refine kz_gfc (M := kt_M484) (x := 4127) (c := 12) (o := 0) kX13_nameReplicator_c4.2.1 wf_X13_251 (.inl rfl) ?_
  refine kz_aload_n (M := kt_M484) kX13_nameReplicator_c4.2.2.1 rfl ?_
  refine kz_gfc (M := kt_M484) (x := 4103) (c := 12) (o := 0) kX13_nameReplicator_c4.2.2.2.1 wf_X13_202 (.inl rfl) ?_
  refine kz_iload_n (M := kt_M484) kX13_nameReplicator_c4.2.2.2.2.1 rfl ?_
  refine kz_ialdR (M := kt_M484) (n := w_n w5 12 0 31) (c := 12) (o := 0) (k := 31) (a := (E.2.1 4103)) (w_a (ws_a w5 12 0 31 (x1).toNatClampNeg v6) 12 0 31 (x1).toNatClampNeg) kX13_nameReplicator_c4.2.2.2.2.2.1 ow_12_0_31 oa_12_0_31 ot_0 rd_n_a rfl h (fun h => ?_)
  refine kz_iload_n (M := kt_M484) kX13_nameReplicator_c4.2.2.2.2.2.2.1 rfl ?_
  refine kz_iastR (M := kt_M484) (n := w_n w5 12 0 55) (c := 12) (o := 0) (k := 55) (a := (E.2.1 4127)) kX13_nameReplicator_c4.2.2.2.2.2.2.2.1 ow_12_0_55 oa_12_0_55 ot_0 rd_n_a h (fun h => ?_)
  refine kz_aload_n (M := kt_M484) kX13_nameReplicator_c5.1 rfl ?_
  refine kz_aload_n (M := kt_M484) kX13_nameReplicator_c5.2.1 rfl ?_
  refine kz_gfc (M := kt_M484) (x := 4103) (c := 12) (o := 0) kX13_nameReplicator_c5.2.2.1 wf_X13_202 (.inl rfl) ?_
  refine kz_iload_n (M := kt_M484) kX13_nameReplicator_c5.2.2.2.1 rfl ?_
  refine kz_ialdR (M := kt_M484) (n := w_n w5 12 0 31) (c := 12) (o := 0) (k := 31) (a := (E.2.1 4103)) (w_a (ws_a w5 12 0 31 (x1).toNatClampNeg v6) 12 0 31 (x1).toNatClampNeg) kX13_nameReplicator_c5.2.2.2.2.1 ow_12_0_31 oa_12_0_31 ot_0 (rd_n_a.trans rd_n_a) (rd_a_a rfl) h (fun h => ?_)
  refine kz_cv0 (M := kt_M484) (c := 12) (o := 0) (As := [.int (w_a (ws_a w5 12 0 31 (x1).toNatClampNeg v6) 12 0 31 (x1).toNatClampNeg)]) (rest := []) kX13_nameReplicator_c5.2.2.2.2.2.1 wl_X13_763 wMv_455 rfl (.inl rfl) rfl (Nat.le_trans (Nat.le_of_ble_eq_true rfl) hL) (Nat.le_of_ble_eq_true rfl) (Nat.le_of_ble_eq_true rfl) h (fun w7 hle h => ?_) (fun _ _ _ h => kzx_no rfl h)
  have h := h hle
  exact kz_ret (M := kt_M484) kX13_nameReplicator_c5.2.2.2.2.2.2.1 rfl h
def zL_X13_namePar_p158 (E : zE) (L : Nat) (Q : kx_Rs → wS → Prop) (x2 : Int32) (x3 : Int32) (w : wS) : Prop := kzE E L kt_M482 158 [(0, .ref (w_adr E.2.1 12 0)), (2, .int x2), (3, .int x3)] [] w Q
def zb_X13_namePar_p158 (E : zE) (L : Nat) (Q : kx_Rs → wS → Prop) (x2 : Int32) (x3 : Int32) (w : wS) : Prop := (if x3 < 0 then Q (.inl none) w else zw E (L - 20) kt_M492 [.ref (w_adr E.2.1 12 0)] w (wk1 (fun v2 w1 => wle w w1 → (kx_inb x3 (w_n w1 12 0 63) = true ∧ zw E (L - 22) kt_M473 [.ref (w_adr E.2.1 12 0), .int x3] (ws_a (ws_i w1 12 0 62 v2) 12 0 63 (x3).toNatClampNeg v2) (wk0 (fun w3 => wle (ws_a (ws_i w1 12 0 62 v2) 12 0 63 (x3).toNatClampNeg v2) w3 → (kx_inb x3 (w_n w3 12 0 32) = true ∧ zL_X13_namePar_p158 E L Q x2 (w_a w3 12 0 32 (x3).toNatClampNeg) (ws_i w3 12 0 62 x2))) (fun e w => Q (.inr e) w)))) (fun e w => Q (.inr e) w)))
theorem zt_X13_namePar_p158 {E : zE} {L : Nat} {Q : kx_Rs → wS → Prop} {x2 : Int32} {x3 : Int32} {w : wS} (hL : 28 ≤ L) (h : zb_X13_namePar_p158 E L Q x2 x3 w) : kzE E L kt_M482 158 [(0, .ref (w_adr E.2.1 12 0)), (2, .int x2), (3, .int x3)] [] w Q := by
  unfold zb_X13_namePar_p158 at h
  refine kz_iload_n (M := kt_M482) kX13_namePar_c12.2.2.2.1 rfl ?_
  refine kz_if_lt (M := kt_M482) kX13_namePar_c12.2.2.2.2.1 (t := 200) rfl h (fun h => ?_) (fun h => ?_)
  · skip
    exact kz_ret (M := kt_M482) kX13_namePar_c15.2.2.2.1 rfl h
  · skip
    refine kz_aload_n (M := kt_M482) kX13_namePar_c12.2.2.2.2.2.1 rfl ?_
    refine kz_aload_n (M := kt_M482) kX13_namePar_c12.2.2.2.2.2.2.1 rfl ?_
    refine kz_cv1 (M := kt_M482) (c := 12) (o := 0) (As := []) (rest := [.ref (w_adr E.2.1 12 0)]) kX13_namePar_c12.2.2.2.2.2.2.2.1 wl_X13_787 wMv_492 rfl (.inl rfl) rfl (Nat.le_trans (Nat.le_of_ble_eq_true rfl) hL) (Nat.le_of_ble_eq_true rfl) (Nat.le_of_ble_eq_true rfl) h (fun v2 w1 hle h => ?_) (fun _ _ _ h => kzx_no rfl h)
    have h := h hle
    refine kz_pfi (M := kt_M482) (c := 12) (o := 0) kX13_namePar_c13.1 wq_X13_725 (.inl rfl) ?_
    refine kz_aload_n (M := kt_M482) kX13_namePar_c13.2.1 rfl ?_
    refine kz_gfc (M := kt_M482) (x := 4135) (c := 12) (o := 0) kX13_namePar_c13.2.2.1 wf_X13_263 (.inl rfl) ?_
    refine kz_iload_n (M := kt_M482) kX13_namePar_c13.2.2.2.1 rfl ?_
    refine kz_aload_n (M := kt_M482) kX13_namePar_c13.2.2.2.2.1 rfl ?_
    refine kz_gfiR (M := kt_M482) (c := 12) (o := 0) v2 kX13_namePar_c13.2.2.2.2.2.1 wf_X13_725 (.inl rfl) rd_i_e ?_
    refine kz_iastR (M := kt_M482) (n := w_n w1 12 0 63) (c := 12) (o := 0) (k := 63) (a := (E.2.1 4135)) kX13_namePar_c13.2.2.2.2.2.2.1 ow_12_0_63 oa_12_0_63 ot_0 rd_n_i h (fun h => ?_)
    refine kz_aload_n (M := kt_M482) kX13_namePar_c13.2.2.2.2.2.2.2.1 rfl ?_
    refine kz_iload_n (M := kt_M482) kX13_namePar_c14.1 rfl ?_
    refine kz_cv0 (M := kt_M482) (c := 12) (o := 0) (As := [.int x3]) (rest := []) kX13_namePar_c14.2.1 wl_X13_772 wMv_473 rfl (.inl rfl) rfl (Nat.le_trans (Nat.le_of_ble_eq_true rfl) hL) (Nat.le_of_ble_eq_true rfl) (Nat.le_of_ble_eq_true rfl) h (fun w3 hle h => ?_) (fun _ _ _ h => kzx_no rfl h)
    have h := h hle
    refine kz_aload_n (M := kt_M482) kX13_namePar_c14.2.2.1 rfl ?_
    refine kz_iload_n (M := kt_M482) kX13_namePar_c14.2.2.2.1 rfl ?_
    refine kz_pfi (M := kt_M482) (c := 12) (o := 0) kX13_namePar_c14.2.2.2.2.1 wq_X13_725 (.inl rfl) ?_
    refine kz_aload_n (M := kt_M482) kX13_namePar_c14.2.2.2.2.2.1 rfl ?_
    refine kz_gfc (M := kt_M482) (x := 4104) (c := 12) (o := 0) kX13_namePar_c14.2.2.2.2.2.2.1 wf_X13_205 (.inl rfl) ?_
    refine kz_iload_n (M := kt_M482) kX13_namePar_c14.2.2.2.2.2.2.2.1 rfl ?_
    refine kz_ialdR (M := kt_M482) (n := w_n w3 12 0 32) (c := 12) (o := 0) (k := 32) (a := (E.2.1 4104)) (w_a w3 12 0 32 (x3).toNatClampNeg) kX13_namePar_c15.1 ow_12_0_32 oa_12_0_32 ot_0 rd_n_i rd_a_i h (fun h => ?_)
    refine kz_sti_n (M := kt_M482) [(0, .ref (w_adr E.2.1 12 0)), (2, .int x2)] kX13_namePar_c15.2.1 (Nat.le_of_ble_eq_true rfl) ⟨⟨rfl, rfl, .inl rfl⟩, ⟨⟨rfl, rfl, .inr rfl⟩, trivial⟩⟩ rfl ?_
    refine kz_goto (M := kt_M482) kX13_namePar_c15.2.2.1 (t := 158) rfl ?_
    exact kz_weak [(0, .ref (w_adr E.2.1 12 0)), (2, .int x2), (3, .int (w_a w3 12 0 32 (x3).toNatClampNeg))] ⟨rfl, ⟨rfl, ⟨rfl, trivial⟩⟩⟩ rfl h
def zb_X13_namePar_p0 (E : zE) (L : Nat) (Q : kx_Rs → wS → Prop) (x1 : Int32) (w : wS) : Prop := (kx_inb x1 (w_n w 12 0 66) = true ∧ (kx_inb x1 (w_n w 12 0 28) = true ∧ (if w_a w 12 0 28 (x1).toNatClampNeg < 0 then (kx_inb x1 (w_n w 12 0 29) = true ∧ zL_X13_namePar_p158 E L Q (w_i w 12 0 62) (w_a w 12 0 29 (x1).toNatClampNeg) (ws_a w 12 0 66 (x1).toNatClampNeg (w_i w 12 0 44))) else (kx_inb x1 (w_n w 12 0 28) = true ∧ (kx_inb (w_a w 12 0 28 (x1).toNatClampNeg) (w_n w 12 0 28) = true ∧ zw E (L - 24) kt_M476 [.ref (w_adr E.2.1 12 0), .int (w_a w 12 0 28 (w_a w 12 0 28 (x1).toNatClampNeg).toNatClampNeg), .int 0] (ws_a w 12 0 66 (x1).toNatClampNeg (w_i w 12 0 44)) (wk0 (fun w1 => wle (ws_a w 12 0 66 (x1).toNatClampNeg (w_i w 12 0 44)) w1 → (kx_inb x1 (w_n w1 12 0 28) = true ∧ (kx_inb (w_a w1 12 0 28 (x1).toNatClampNeg) (w_n w1 12 0 29) = true ∧ zw E (L - 24) kt_M476 [.ref (w_adr E.2.1 12 0), .int (w_a w1 12 0 29 (w_a w1 12 0 28 (x1).toNatClampNeg).toNatClampNeg), .int 0] w1 (wk0 (fun w3 => wle w1 w3 → zw E (L - 20) kt_M492 [.ref (w_adr E.2.1 12 0)] w3 (wk1 (fun v6 w5 => wle w3 w5 → (kx_inb x1 (w_n w5 12 0 28) = true ∧ (kx_inb (w_a w5 12 0 28 (x1).toNatClampNeg) (w_n w5 12 0 30) = true ∧ (kx_inb (w_a w5 12 0 28 (x1).toNatClampNeg) (w_n w5 12 0 27) = true ∧ zw E (L - 28) kt_M550 [.ref (w_adr E.2.1 12 0), .int (w_a w5 12 0 30 (w_a w5 12 0 28 (x1).toNatClampNeg).toNatClampNeg), .int 9, .int 0, .int (-1), .int (w_a w5 12 0 28 (x1).toNatClampNeg), .int (w_a w5 12 0 27 (w_a w5 12 0 28 (x1).toNatClampNeg).toNatClampNeg)] (ws_i w5 12 0 62 v6) (wk1 (fun v8 w7 => wle (ws_i w5 12 0 62 v6) w7 → (kx_inb (w_a w5 12 0 28 (x1).toNatClampNeg) (w_n w7 12 0 31) = true ∧ (kx_inb (w_a w5 12 0 28 (x1).toNatClampNeg) (w_n w7 12 0 31) = true ∧ (kx_inb (w_a (ws_a w7 12 0 31 (w_a w5 12 0 28 (x1).toNatClampNeg).toNatClampNeg v8) 12 0 31 (w_a w5 12 0 28 (x1).toNatClampNeg).toNatClampNeg) (w_n w7 12 0 55) = true ∧ (kx_inb (w_a w5 12 0 28 (x1).toNatClampNeg) (w_n w7 12 0 31) = true ∧ zw E (L - 21) kt_M455 [.ref (w_adr E.2.1 12 0), .int (w_a (ws_a w7 12 0 31 (w_a w5 12 0 28 (x1).toNatClampNeg).toNatClampNeg v8) 12 0 31 (w_a w5 12 0 28 (x1).toNatClampNeg).toNatClampNeg)] (ws_a (ws_a w7 12 0 31 (w_a w5 12 0 28 (x1).toNatClampNeg).toNatClampNeg v8) 12 0 55 (w_a (ws_a w7 12 0 31 (w_a w5 12 0 28 (x1).toNatClampNeg).toNatClampNeg v8) 12 0 31 (w_a w5 12 0 28 (x1).toNatClampNeg).toNatClampNeg).toNatClampNeg (w_a w5 12 0 28 (x1).toNatClampNeg)) (wk0 (fun w9 => wle (ws_a (ws_a w7 12 0 31 (w_a w5 12 0 28 (x1).toNatClampNeg).toNatClampNeg v8) 12 0 55 (w_a (ws_a w7 12 0 31 (w_a w5 12 0 28 (x1).toNatClampNeg).toNatClampNeg v8) 12 0 31 (w_a w5 12 0 28 (x1).toNatClampNeg).toNatClampNeg).toNatClampNeg (w_a w5 12 0 28 (x1).toNatClampNeg)) w9 → (kx_inb x1 (w_n w9 12 0 29) = true ∧ (kx_inb (w_a w9 12 0 29 (x1).toNatClampNeg) (w_n w9 12 0 63) = true ∧ (kx_inb x1 (w_n w9 12 0 29) = true ∧ zw E (L - 22) kt_M473 [.ref (w_adr E.2.1 12 0), .int (w_a w9 12 0 29 (x1).toNatClampNeg)] (ws_a w9 12 0 63 (w_a w9 12 0 29 (x1).toNatClampNeg).toNatClampNeg (w_i w9 12 0 62)) (wk0 (fun w11 => wle (ws_a w9 12 0 63 (w_a w9 12 0 29 (x1).toNatClampNeg).toNatClampNeg (w_i w9 12 0 62)) w11 → Q (.inl none) (ws_i w11 12 0 62 (w_i w 12 0 62))) (fun e w => Q (.inr e) w)))))) (fun e w => Q (.inr e) w))))))) (fun e w => Q (.inr e) w)))))) (fun e w => Q (.inr e) w))) (fun e w => Q (.inr e) w))))) (fun e w => Q (.inr e) w)))))))
theorem zt_X13_namePar_p0 {E : zE} {L : Nat} {Q : kx_Rs → wS → Prop} {x1 : Int32} {w : wS} (hL : 28 ≤ L) (h : zb_X13_namePar_p0 E L Q x1 w) : kzE E L kt_M482 0 [(0, .ref (w_adr E.2.1 12 0)), (1, .int x1)] [] w Q := by
  unfold zb_X13_namePar_p0 at h
  refine kz_aload_n (M := kt_M482) kX13_namePar_c0.1 rfl ?_
  refine kz_gfi (M := kt_M482) (c := 12) (o := 0) kX13_namePar_c0.2.1 wf_X13_725 (.inl rfl) ?_
  refine kz_sti_n (M := kt_M482) [(0, .ref (w_adr E.2.1 12 0)), (1, .int x1)] kX13_namePar_c0.2.2.1 (Nat.le_of_ble_eq_true rfl) ⟨⟨rfl, rfl, .inl rfl⟩, ⟨⟨rfl, rfl, .inr rfl⟩, trivial⟩⟩ rfl ?_
  refine kz_aload_n (M := kt_M482) kX13_namePar_c0.2.2.2.1 rfl ?_
  refine kz_gfc (M := kt_M482) (x := 4138) (c := 12) (o := 0) kX13_namePar_c0.2.2.2.2.1 wf_X13_266 (.inl rfl) ?_
  refine kz_iload_n (M := kt_M482) kX13_namePar_c0.2.2.2.2.2.1 rfl ?_
  refine kz_aload_n (M := kt_M482) kX13_namePar_c0.2.2.2.2.2.2.1 rfl ?_
  refine kz_gfi (M := kt_M482) (c := 12) (o := 0) kX13_namePar_c0.2.2.2.2.2.2.2.1 wf_X13_722 (.inl rfl) ?_
  refine kz_iast (M := kt_M482) (c := 12) (o := 0) (k := 66) (a := (E.2.1 4138)) kX13_namePar_c1.1 ow_12_0_66 oa_12_0_66 ot_0 h (fun h => ?_)
  refine kz_aload_n (M := kt_M482) kX13_namePar_c1.2.1 rfl ?_
  refine kz_gfc (M := kt_M482) (x := 4100) (c := 12) (o := 0) kX13_namePar_c1.2.2.1 wf_X13_193 (.inl rfl) ?_
  refine kz_iload_n (M := kt_M482) kX13_namePar_c1.2.2.2.1 rfl ?_
  refine kz_ialdR (M := kt_M482) (n := w_n w 12 0 28) (c := 12) (o := 0) (k := 28) (a := (E.2.1 4100)) (w_a w 12 0 28 (x1).toNatClampNeg) kX13_namePar_c1.2.2.2.2.1 ow_12_0_28 oa_12_0_28 ot_0 rd_n_a (rd_a_a rfl) h (fun h => ?_)
  refine kz_if_lt (M := kt_M482) kX13_namePar_c1.2.2.2.2.2.1 (t := 151) rfl h (fun h => ?_) (fun h => ?_)
  · skip
    refine kz_aload_n (M := kt_M482) kX13_namePar_c11.2.2.2.2.2.2.1 rfl ?_
    refine kz_gfc (M := kt_M482) (x := 4101) (c := 12) (o := 0) kX13_namePar_c11.2.2.2.2.2.2.2.1 wf_X13_196 (.inl rfl) ?_
    refine kz_iload_n (M := kt_M482) kX13_namePar_c12.1 rfl ?_
    refine kz_ialdR (M := kt_M482) (n := w_n w 12 0 29) (c := 12) (o := 0) (k := 29) (a := (E.2.1 4101)) (w_a w 12 0 29 (x1).toNatClampNeg) kX13_namePar_c12.2.1 ow_12_0_29 oa_12_0_29 ot_0 rd_n_a (rd_a_a rfl) h (fun h => ?_)
    refine kz_sti_n (M := kt_M482) [(0, .ref (w_adr E.2.1 12 0)), (2, .int (w_i w 12 0 62))] kX13_namePar_c12.2.2.1 (Nat.le_of_ble_eq_true rfl) ⟨⟨rfl, rfl, .inl rfl⟩, ⟨⟨rfl, rfl, .inr rfl⟩, trivial⟩⟩ rfl ?_
    exact kz_weak [(0, .ref (w_adr E.2.1 12 0)), (2, .int (w_i w 12 0 62)), (3, .int (w_a w 12 0 29 (x1).toNatClampNeg))] ⟨rfl, ⟨rfl, ⟨rfl, trivial⟩⟩⟩ rfl h
  · skip
    refine kz_aload_n (M := kt_M482) kX13_namePar_c1.2.2.2.2.2.2.1 rfl ?_
    refine kz_aload_n (M := kt_M482) kX13_namePar_c1.2.2.2.2.2.2.2.1 rfl ?_
    refine kz_gfc (M := kt_M482) (x := 4100) (c := 12) (o := 0) kX13_namePar_c2.1 wf_X13_193 (.inl rfl) ?_
    refine kz_aload_n (M := kt_M482) kX13_namePar_c2.2.1 rfl ?_
    refine kz_gfc (M := kt_M482) (x := 4100) (c := 12) (o := 0) kX13_namePar_c2.2.2.1 wf_X13_193 (.inl rfl) ?_
    refine kz_iload_n (M := kt_M482) kX13_namePar_c2.2.2.2.1 rfl ?_
    refine kz_ialdR (M := kt_M482) (n := w_n w 12 0 28) (c := 12) (o := 0) (k := 28) (a := (E.2.1 4100)) (w_a w 12 0 28 (x1).toNatClampNeg) kX13_namePar_c2.2.2.2.2.1 ow_12_0_28 oa_12_0_28 ot_0 rd_n_a (rd_a_a rfl) h (fun h => ?_)
    refine kz_ialdR (M := kt_M482) (n := w_n w 12 0 28) (c := 12) (o := 0) (k := 28) (a := (E.2.1 4100)) (w_a w 12 0 28 (w_a w 12 0 28 (x1).toNatClampNeg).toNatClampNeg) kX13_namePar_c2.2.2.2.2.2.1 ow_12_0_28 oa_12_0_28 ot_0 rd_n_a (rd_a_a rfl) h (fun h => ?_)
    refine kz_ic (M := kt_M482) 0 kX13_namePar_c2.2.2.2.2.2.2.1 rfl ?_
    refine kz_cv0 (M := kt_M482) (c := 12) (o := 0) (As := [.int (w_a w 12 0 28 (w_a w 12 0 28 (x1).toNatClampNeg).toNatClampNeg), .int 0]) (rest := []) kX13_namePar_c2.2.2.2.2.2.2.2.1 wl_X13_743 wMv_476 rfl (.inl rfl) rfl (Nat.le_trans (Nat.le_of_ble_eq_true rfl) hL) (Nat.le_of_ble_eq_true rfl) (Nat.le_of_ble_eq_true rfl) h (fun w1 hle h => ?_) (fun _ _ _ h => kzx_no rfl h)
    have h := h hle
    refine kz_aload_n (M := kt_M482) kX13_namePar_c3.1 rfl ?_
    refine kz_aload_n (M := kt_M482) kX13_namePar_c3.2.1 rfl ?_
    refine kz_gfc (M := kt_M482) (x := 4101) (c := 12) (o := 0) kX13_namePar_c3.2.2.1 wf_X13_196 (.inl rfl) ?_
    refine kz_aload_n (M := kt_M482) kX13_namePar_c3.2.2.2.1 rfl ?_
    refine kz_gfc (M := kt_M482) (x := 4100) (c := 12) (o := 0) kX13_namePar_c3.2.2.2.2.1 wf_X13_193 (.inl rfl) ?_
    refine kz_iload_n (M := kt_M482) kX13_namePar_c3.2.2.2.2.2.1 rfl ?_
    refine kz_iald (M := kt_M482) (c := 12) (o := 0) (k := 28) (a := (E.2.1 4100)) kX13_namePar_c3.2.2.2.2.2.2.1 ow_12_0_28 oa_12_0_28 ot_0 h (fun h => ?_)
    refine kz_iald (M := kt_M482) (c := 12) (o := 0) (k := 29) (a := (E.2.1 4101)) kX13_namePar_c3.2.2.2.2.2.2.2.1 ow_12_0_29 oa_12_0_29 ot_0 h (fun h => ?_)
    refine kz_ic (M := kt_M482) 0 kX13_namePar_c4.1 rfl ?_
    refine kz_cv0 (M := kt_M482) (c := 12) (o := 0) (As := [.int (w_a w1 12 0 29 (w_a w1 12 0 28 (x1).toNatClampNeg).toNatClampNeg), .int 0]) (rest := []) kX13_namePar_c4.2.1 wl_X13_743 wMv_476 rfl (.inl rfl) rfl (Nat.le_trans (Nat.le_of_ble_eq_true rfl) hL) (Nat.le_of_ble_eq_true rfl) (Nat.le_of_ble_eq_true rfl) h (fun w3 hle h => ?_) (fun _ _ _ h => kzx_no rfl h)
    have h := h hle
    refine kz_aload_n (M := kt_M482) kX13_namePar_c4.2.2.1 rfl ?_
    refine kz_aload_n (M := kt_M482) kX13_namePar_c4.2.2.2.1 rfl ?_
    refine kz_cv1 (M := kt_M482) (c := 12) (o := 0) (As := []) (rest := [.ref (w_adr E.2.1 12 0)]) kX13_namePar_c4.2.2.2.2.1 wl_X13_787 wMv_492 rfl (.inl rfl) rfl (Nat.le_trans (Nat.le_of_ble_eq_true rfl) hL) (Nat.le_of_ble_eq_true rfl) (Nat.le_of_ble_eq_true rfl) h (fun v6 w5 hle h => ?_) (fun _ _ _ h => kzx_no rfl h)
    have h := h hle
    refine kz_pfi (M := kt_M482) (c := 12) (o := 0) kX13_namePar_c4.2.2.2.2.2.1 wq_X13_725 (.inl rfl) ?_
    refine kz_aload_n (M := kt_M482) kX13_namePar_c4.2.2.2.2.2.2.1 rfl ?_
    refine kz_gfc (M := kt_M482) (x := 4100) (c := 12) (o := 0) kX13_namePar_c4.2.2.2.2.2.2.2.1 wf_X13_193 (.inl rfl) ?_
    refine kz_iload_n (M := kt_M482) kX13_namePar_c5.1 rfl ?_
    refine kz_ialdR (M := kt_M482) (n := w_n w5 12 0 28) (c := 12) (o := 0) (k := 28) (a := (E.2.1 4100)) (w_a w5 12 0 28 (x1).toNatClampNeg) kX13_namePar_c5.2.1 ow_12_0_28 oa_12_0_28 ot_0 rd_n_i rd_a_i h (fun h => ?_)
    refine kz_sti_n (M := kt_M482) [(0, .ref (w_adr E.2.1 12 0)), (1, .int x1), (2, .int (w_i w 12 0 62))] kX13_namePar_c5.2.2.1 (Nat.le_of_ble_eq_true rfl) ⟨⟨rfl, rfl, .inl rfl⟩, ⟨⟨rfl, rfl, .inl rfl⟩, ⟨⟨rfl, rfl, .inr rfl⟩, trivial⟩⟩⟩ rfl ?_
    refine kz_aload_n (M := kt_M482) kX13_namePar_c5.2.2.2.1 rfl ?_
    refine kz_gfc (M := kt_M482) (x := 4103) (c := 12) (o := 0) kX13_namePar_c5.2.2.2.2.1 wf_X13_202 (.inl rfl) ?_
    refine kz_iload_n (M := kt_M482) kX13_namePar_c5.2.2.2.2.2.1 rfl ?_
    refine kz_aload_n (M := kt_M482) kX13_namePar_c5.2.2.2.2.2.2.1 rfl ?_
    refine kz_aload_n (M := kt_M482) kX13_namePar_c5.2.2.2.2.2.2.2.1 rfl ?_
    refine kz_gfc (M := kt_M482) (x := 4102) (c := 12) (o := 0) kX13_namePar_c6.1 wf_X13_199 (.inl rfl) ?_
    refine kz_iload_n (M := kt_M482) kX13_namePar_c6.2.1 rfl ?_
    refine kz_ialdR (M := kt_M482) (n := w_n w5 12 0 30) (c := 12) (o := 0) (k := 30) (a := (E.2.1 4102)) (w_a w5 12 0 30 (w_a w5 12 0 28 (x1).toNatClampNeg).toNatClampNeg) kX13_namePar_c6.2.2.1 ow_12_0_30 oa_12_0_30 ot_0 rd_n_i rd_a_i h (fun h => ?_)
    refine kz_bi (M := kt_M482) 9 kX13_namePar_c6.2.2.2.1 rfl ?_
    refine kz_ic (M := kt_M482) 0 kX13_namePar_c6.2.2.2.2.1 rfl ?_
    refine kz_ic (M := kt_M482) (-1) kX13_namePar_c6.2.2.2.2.2.1 rfl ?_
    refine kz_iload_n (M := kt_M482) kX13_namePar_c6.2.2.2.2.2.2.1 rfl ?_
    refine kz_aload_n (M := kt_M482) kX13_namePar_c6.2.2.2.2.2.2.2.1 rfl ?_
    refine kz_gfc (M := kt_M482) (x := 4099) (c := 12) (o := 0) kX13_namePar_c7.1 wf_X13_190 (.inl rfl) ?_
    refine kz_iload_n (M := kt_M482) kX13_namePar_c7.2.1 rfl ?_
    refine kz_ialdR (M := kt_M482) (n := w_n w5 12 0 27) (c := 12) (o := 0) (k := 27) (a := (E.2.1 4099)) (w_a w5 12 0 27 (w_a w5 12 0 28 (x1).toNatClampNeg).toNatClampNeg) kX13_namePar_c7.2.2.1 ow_12_0_27 oa_12_0_27 ot_0 rd_n_i rd_a_i h (fun h => ?_)
    refine kz_cv1 (M := kt_M482) (c := 12) (o := 0) (As := [.int (w_a w5 12 0 30 (w_a w5 12 0 28 (x1).toNatClampNeg).toNatClampNeg), .int 9, .int 0, .int (-1), .int (w_a w5 12 0 28 (x1).toNatClampNeg), .int (w_a w5 12 0 27 (w_a w5 12 0 28 (x1).toNatClampNeg).toNatClampNeg)]) (rest := [.int (w_a w5 12 0 28 (x1).toNatClampNeg), .ref (E.2.1 4103)]) kX13_namePar_c7.2.2.2.1 wl_X13_759 wMv_550 rfl (.inl rfl) rfl (Nat.le_trans (Nat.le_of_ble_eq_true rfl) hL) (Nat.le_of_ble_eq_true rfl) (Nat.le_of_ble_eq_true rfl) h (fun v8 w7 hle h => ?_) (fun _ _ _ h => kzx_no rfl h)
    have h := h hle
    refine kz_iast (M := kt_M482) (c := 12) (o := 0) (k := 31) (a := (E.2.1 4103)) kX13_namePar_c7.2.2.2.2.1 ow_12_0_31 oa_12_0_31 ot_0 h (fun h => ?_)
    refine kz_aload_n (M := kt_M482) kX13_namePar_c7.2.2.2.2.2.1 rfl ?_
    refine kz_gfc (M := kt_M482) (x := 4127) (c := 12) (o := 0) kX13_namePar_c7.2.2.2.2.2.2.1 wf_X13_251 (.inl rfl) ?_
    refine kz_aload_n (M := kt_M482) kX13_namePar_c7.2.2.2.2.2.2.2.1 rfl ?_
    refine kz_gfc (M := kt_M482) (x := 4103) (c := 12) (o := 0) kX13_namePar_c8.1 wf_X13_202 (.inl rfl) ?_
    refine kz_iload_n (M := kt_M482) kX13_namePar_c8.2.1 rfl ?_
    refine kz_ialdR (M := kt_M482) (n := w_n w7 12 0 31) (c := 12) (o := 0) (k := 31) (a := (E.2.1 4103)) (w_a (ws_a w7 12 0 31 (w_a w5 12 0 28 (x1).toNatClampNeg).toNatClampNeg v8) 12 0 31 (w_a w5 12 0 28 (x1).toNatClampNeg).toNatClampNeg) kX13_namePar_c8.2.2.1 ow_12_0_31 oa_12_0_31 ot_0 rd_n_a rfl h (fun h => ?_)
    refine kz_iload_n (M := kt_M482) kX13_namePar_c8.2.2.2.1 rfl ?_
    refine kz_iastR (M := kt_M482) (n := w_n w7 12 0 55) (c := 12) (o := 0) (k := 55) (a := (E.2.1 4127)) kX13_namePar_c8.2.2.2.2.1 ow_12_0_55 oa_12_0_55 ot_0 rd_n_a h (fun h => ?_)
    refine kz_aload_n (M := kt_M482) kX13_namePar_c8.2.2.2.2.2.1 rfl ?_
    refine kz_aload_n (M := kt_M482) kX13_namePar_c8.2.2.2.2.2.2.1 rfl ?_
    refine kz_gfc (M := kt_M482) (x := 4103) (c := 12) (o := 0) kX13_namePar_c8.2.2.2.2.2.2.2.1 wf_X13_202 (.inl rfl) ?_
    refine kz_iload_n (M := kt_M482) kX13_namePar_c9.1 rfl ?_
    refine kz_ialdR (M := kt_M482) (n := w_n w7 12 0 31) (c := 12) (o := 0) (k := 31) (a := (E.2.1 4103)) (w_a (ws_a w7 12 0 31 (w_a w5 12 0 28 (x1).toNatClampNeg).toNatClampNeg v8) 12 0 31 (w_a w5 12 0 28 (x1).toNatClampNeg).toNatClampNeg) kX13_namePar_c9.2.1 ow_12_0_31 oa_12_0_31 ot_0 (rd_n_a.trans rd_n_a) (rd_a_a rfl) h (fun h => ?_)
    refine kz_cv0 (M := kt_M482) (c := 12) (o := 0) (As := [.int (w_a (ws_a w7 12 0 31 (w_a w5 12 0 28 (x1).toNatClampNeg).toNatClampNeg v8) 12 0 31 (w_a w5 12 0 28 (x1).toNatClampNeg).toNatClampNeg)]) (rest := []) kX13_namePar_c9.2.2.1 wl_X13_763 wMv_455 rfl (.inl rfl) rfl (Nat.le_trans (Nat.le_of_ble_eq_true rfl) hL) (Nat.le_of_ble_eq_true rfl) (Nat.le_of_ble_eq_true rfl) h (fun w9 hle h => ?_) (fun _ _ _ h => kzx_no rfl h)
    have h := h hle
    refine kz_aload_n (M := kt_M482) kX13_namePar_c9.2.2.2.1 rfl ?_
    refine kz_gfc (M := kt_M482) (x := 4135) (c := 12) (o := 0) kX13_namePar_c9.2.2.2.2.1 wf_X13_263 (.inl rfl) ?_
    refine kz_aload_n (M := kt_M482) kX13_namePar_c9.2.2.2.2.2.1 rfl ?_
    refine kz_gfc (M := kt_M482) (x := 4101) (c := 12) (o := 0) kX13_namePar_c9.2.2.2.2.2.2.1 wf_X13_196 (.inl rfl) ?_
    refine kz_iload_n (M := kt_M482) kX13_namePar_c9.2.2.2.2.2.2.2.1 rfl ?_
    refine kz_iald (M := kt_M482) (c := 12) (o := 0) (k := 29) (a := (E.2.1 4101)) kX13_namePar_c10.1 ow_12_0_29 oa_12_0_29 ot_0 h (fun h => ?_)
    refine kz_aload_n (M := kt_M482) kX13_namePar_c10.2.1 rfl ?_
    refine kz_gfi (M := kt_M482) (c := 12) (o := 0) kX13_namePar_c10.2.2.1 wf_X13_725 (.inl rfl) ?_
    refine kz_iast (M := kt_M482) (c := 12) (o := 0) (k := 63) (a := (E.2.1 4135)) kX13_namePar_c10.2.2.2.1 ow_12_0_63 oa_12_0_63 ot_0 h (fun h => ?_)
    refine kz_aload_n (M := kt_M482) kX13_namePar_c10.2.2.2.2.1 rfl ?_
    refine kz_aload_n (M := kt_M482) kX13_namePar_c10.2.2.2.2.2.1 rfl ?_
    refine kz_gfc (M := kt_M482) (x := 4101) (c := 12) (o := 0) kX13_namePar_c10.2.2.2.2.2.2.1 wf_X13_196 (.inl rfl) ?_
    refine kz_iload_n (M := kt_M482) kX13_namePar_c10.2.2.2.2.2.2.2.1 rfl ?_
    refine kz_ialdR (M := kt_M482) (n := w_n w9 12 0 29) (c := 12) (o := 0) (k := 29) (a := (E.2.1 4101)) (w_a w9 12 0 29 (x1).toNatClampNeg) kX13_namePar_c11.1 ow_12_0_29 oa_12_0_29 ot_0 rd_n_a (rd_a_a rfl) h (fun h => ?_)
    refine kz_cv0 (M := kt_M482) (c := 12) (o := 0) (As := [.int (w_a w9 12 0 29 (x1).toNatClampNeg)]) (rest := []) kX13_namePar_c11.2.1 wl_X13_772 wMv_473 rfl (.inl rfl) rfl (Nat.le_trans (Nat.le_of_ble_eq_true rfl) hL) (Nat.le_of_ble_eq_true rfl) (Nat.le_of_ble_eq_true rfl) h (fun w11 hle h => ?_) (fun _ _ _ h => kzx_no rfl h)
    have h := h hle
    refine kz_aload_n (M := kt_M482) kX13_namePar_c11.2.2.1 rfl ?_
    refine kz_iload_n (M := kt_M482) kX13_namePar_c11.2.2.2.1 rfl ?_
    refine kz_pfi (M := kt_M482) (c := 12) (o := 0) kX13_namePar_c11.2.2.2.2.1 wq_X13_725 (.inl rfl) ?_
    exact kz_ret (M := kt_M482) kX13_namePar_c11.2.2.2.2.2.1 rfl h
def zb_X13_typeBlock_p0 (E : zE) (L : Nat) (Q : kx_Rs → wS → Prop) (x1 : Int32) (w : wS) : Prop := (kx_inb x1 (w_n w 12 0 28) = true ∧ zw E (L - 22) kt_M575 [.ref (w_adr E.2.1 12 0), .int (w_a w 12 0 28 (x1).toNatClampNeg)] w (wk0 (fun w1 => wle w w1 → (kx_inb x1 (w_n w1 12 0 29) = true ∧ zw E (L - 23) kt_M566 [.ref (w_adr E.2.1 12 0), .int (w_a w1 12 0 29 (x1).toNatClampNeg)] w1 (wk0 (fun w3 => wle w1 w3 → Q (.inl none) w3) (fun e w => Q (.inr e) w)))) (fun e w => Q (.inr e) w)))
theorem zt_X13_typeBlock_p0 {E : zE} {L : Nat} {Q : kx_Rs → wS → Prop} {x1 : Int32} {w : wS} (hL : 23 ≤ L) (h : zb_X13_typeBlock_p0 E L Q x1 w) : kzE E L kt_M571 0 [(0, .ref (w_adr E.2.1 12 0)), (1, .int x1)] [] w Q := by
  unfold zb_X13_typeBlock_p0 at h
  refine kz_aload_n (M := kt_M571) kX13_typeBlock_c0.1 rfl ?_
  refine kz_aload_n (M := kt_M571) kX13_typeBlock_c0.2.1 rfl ?_
  refine kz_gfc (M := kt_M571) (x := 4100) (c := 12) (o := 0) kX13_typeBlock_c0.2.2.1 wf_X13_193 (.inl rfl) ?_
  refine kz_iload_n (M := kt_M571) kX13_typeBlock_c0.2.2.2.1 rfl ?_
  refine kz_iald (M := kt_M571) (c := 12) (o := 0) (k := 28) (a := (E.2.1 4100)) kX13_typeBlock_c0.2.2.2.2.1 ow_12_0_28 oa_12_0_28 ot_0 h (fun h => ?_)
  refine kz_cv0 (M := kt_M571) (c := 12) (o := 0) (As := [.int (w_a w 12 0 28 (x1).toNatClampNeg)]) (rest := []) kX13_typeBlock_c0.2.2.2.2.2.1 wl_X13_913 wMv_575 rfl (.inl rfl) rfl (Nat.le_trans (Nat.le_of_ble_eq_true rfl) hL) (Nat.le_of_ble_eq_true rfl) (Nat.le_of_ble_eq_true rfl) h (fun w1 hle h => ?_) (fun _ _ _ h => kzx_no rfl h)
  have h := h hle
  refine kz_aload_n (M := kt_M571) kX13_typeBlock_c0.2.2.2.2.2.2.1 rfl ?_
  refine kz_aload_n (M := kt_M571) kX13_typeBlock_c0.2.2.2.2.2.2.2.1 rfl ?_
  refine kz_gfc (M := kt_M571) (x := 4101) (c := 12) (o := 0) kX13_typeBlock_c1.1 wf_X13_196 (.inl rfl) ?_
  refine kz_iload_n (M := kt_M571) kX13_typeBlock_c1.2.1 rfl ?_
  refine kz_iald (M := kt_M571) (c := 12) (o := 0) (k := 29) (a := (E.2.1 4101)) kX13_typeBlock_c1.2.2.1 ow_12_0_29 oa_12_0_29 ot_0 h (fun h => ?_)
  refine kz_cv0 (M := kt_M571) (c := 12) (o := 0) (As := [.int (w_a w1 12 0 29 (x1).toNatClampNeg)]) (rest := []) kX13_typeBlock_c1.2.2.2.1 wl_X13_916 wMv_566 rfl (.inl rfl) rfl (Nat.le_trans (Nat.le_of_ble_eq_true rfl) hL) (Nat.le_of_ble_eq_true rfl) (Nat.le_of_ble_eq_true rfl) h (fun w3 hle h => ?_) (fun _ _ _ h => kzx_no rfl h)
  have h := h hle
  exact kz_ret (M := kt_M571) kX13_typeBlock_c1.2.2.2.2.1 rfl h
def zL_X13_typeDeclarations_p2 (E : zE) (L : Nat) (Q : kx_Rs → wS → Prop) (x2 : Int32) (w : wS) : Prop := kzE E L kt_M575 2 [(0, .ref (w_adr E.2.1 12 0)), (2, .int x2)] [] w Q
def zb_X13_typeDeclarations_p2 (E : zE) (L : Nat) (Q : kx_Rs → wS → Prop) (x2 : Int32) (w : wS) : Prop := (if x2 < 0 then Q (.inl none) w else zw E (L - 24) kt_M574 [.ref (w_adr E.2.1 12 0), .int x2] w (wk0 (fun w1 => wle w w1 → (kx_inb x2 (w_n w1 12 0 32) = true ∧ zL_X13_typeDeclarations_p2 E L Q (w_a w1 12 0 32 (x2).toNatClampNeg) w1)) (fun e w => Q (.inr e) w)))
theorem zt_X13_typeDeclarations_p2 {E : zE} {L : Nat} {Q : kx_Rs → wS → Prop} {x2 : Int32} {w : wS} (hL : 24 ≤ L) (h : zb_X13_typeDeclarations_p2 E L Q x2 w) : kzE E L kt_M575 2 [(0, .ref (w_adr E.2.1 12 0)), (2, .int x2)] [] w Q := by
  unfold zb_X13_typeDeclarations_p2 at h
  refine kz_iload_n (M := kt_M575) kX13_typeDeclarations_c0.2.2.1 rfl ?_
  refine kz_if_lt (M := kt_M575) kX13_typeDeclarations_c0.2.2.2.1 (t := 21) rfl h (fun h => ?_) (fun h => ?_)
  · skip
    exact kz_ret (M := kt_M575) kX13_typeDeclarations_c1.2.2.2.2.2.1 rfl h
  · skip
    refine kz_aload_n (M := kt_M575) kX13_typeDeclarations_c0.2.2.2.2.1 rfl ?_
    refine kz_iload_n (M := kt_M575) kX13_typeDeclarations_c0.2.2.2.2.2.1 rfl ?_
    refine kz_cv0 (M := kt_M575) (c := 12) (o := 0) (As := [.int x2]) (rest := []) kX13_typeDeclarations_c0.2.2.2.2.2.2.1 wl_X13_919 wMv_574 rfl (.inl rfl) rfl (Nat.le_trans (Nat.le_of_ble_eq_true rfl) hL) (Nat.le_of_ble_eq_true rfl) (Nat.le_of_ble_eq_true rfl) h (fun w1 hle h => ?_) (fun _ _ _ h => kzx_no rfl h)
    have h := h hle
    refine kz_aload_n (M := kt_M575) kX13_typeDeclarations_c0.2.2.2.2.2.2.2.1 rfl ?_
    refine kz_gfc (M := kt_M575) (x := 4104) (c := 12) (o := 0) kX13_typeDeclarations_c1.1 wf_X13_205 (.inl rfl) ?_
    refine kz_iload_n (M := kt_M575) kX13_typeDeclarations_c1.2.1 rfl ?_
    refine kz_iald (M := kt_M575) (c := 12) (o := 0) (k := 32) (a := (E.2.1 4104)) kX13_typeDeclarations_c1.2.2.1 ow_12_0_32 oa_12_0_32 ot_0 h (fun h => ?_)
    refine kz_sti_n (M := kt_M575) [(0, .ref (w_adr E.2.1 12 0))] kX13_typeDeclarations_c1.2.2.2.1 (Nat.le_of_ble_eq_true rfl) ⟨⟨rfl, rfl, .inl rfl⟩, trivial⟩ rfl ?_
    refine kz_goto (M := kt_M575) kX13_typeDeclarations_c1.2.2.2.2.1 (t := 2) rfl ?_
    exact kz_weak [(0, .ref (w_adr E.2.1 12 0)), (2, .int (w_a w1 12 0 32 (x2).toNatClampNeg))] ⟨rfl, ⟨rfl, trivial⟩⟩ rfl h
def zb_X13_typeDeclarations_p0 (E : zE) (L : Nat) (Q : kx_Rs → wS → Prop) (x1 : Int32) (w : wS) : Prop := zL_X13_typeDeclarations_p2 E L Q x1 w
theorem zt_X13_typeDeclarations_p0 {E : zE} {L : Nat} {Q : kx_Rs → wS → Prop} {x1 : Int32} {w : wS} (hL : 24 ≤ L) (h : zb_X13_typeDeclarations_p0 E L Q x1 w) : kzE E L kt_M575 0 [(0, .ref (w_adr E.2.1 12 0)), (1, .int x1)] [] w Q := by
  unfold zb_X13_typeDeclarations_p0 at h
  refine kz_iload_n (M := kt_M575) kX13_typeDeclarations_c0.1 rfl ?_
  refine kz_sti_n (M := kt_M575) [(0, .ref (w_adr E.2.1 12 0))] kX13_typeDeclarations_c0.2.1 (Nat.le_of_ble_eq_true rfl) ⟨⟨rfl, rfl, .inl rfl⟩, trivial⟩ rfl ?_
  exact kz_weak [(0, .ref (w_adr E.2.1 12 0)), (2, .int x1)] ⟨rfl, ⟨rfl, trivial⟩⟩ rfl h
def zL_X13_typeDeclaration_p504 (E : zE) (L : Nat) (Q : kx_Rs → wS → Prop) (x2 : Int32) (w : wS) : Prop := kzE E L kt_M574 504 [(0, .ref (w_adr E.2.1 12 0)), (2, .int x2)] [] w Q
def zL_X13_typeDeclaration_p89 (E : zE) (L : Nat) (Q : kx_Rs → wS → Prop) (x1 : Int32) (x2 : Int32) (x3 : Int32) (x4 : Int32) (w : wS) : Prop := kzE E L kt_M574 89 [(0, .ref (w_adr E.2.1 12 0)), (1, .int x1), (2, .int x2), (3, .int x3), (4, .int x4)] [] w Q
def zb_X13_typeDeclaration_p608 (E : zE) (L : Nat) (Q : kx_Rs → wS → Prop) (x2 : Int64) (w : wS) : Prop := Q (.inl none) (ws_g w 12 0 79 x2)
theorem zt_X13_typeDeclaration_p608 {E : zE} {L : Nat} {Q : kx_Rs → wS → Prop} {x2 : Int64} {w : wS} (hL : 26 ≤ L) (h : zb_X13_typeDeclaration_p608 E L Q x2 w) : kzE E L kt_M574 608 [(0, .ref (w_adr E.2.1 12 0)), (2, .long (x2))] [] w Q := by
  unfold zb_X13_typeDeclaration_p608 at h
  refine kz_aload_n (M := kt_M574) kX13_typeDeclaration_c40.2.2.2.2.2.2.2.1 rfl ?_
  refine kz_lload_n (M := kt_M574) kX13_typeDeclaration_c41.1 rfl ?_
  refine kz_pfg (M := kt_M574) (c := 12) (o := 0) kX13_typeDeclaration_c41.2.1 wq_X13_938 (.inl rfl) ?_
  exact kz_ret (M := kt_M574) kX13_typeDeclaration_c41.2.2.1 rfl h
def zb_X13_typeDeclaration_p581 (E : zE) (L : Nat) (Q : kx_Rs → wS → Prop) (x1 : Int32) (x2 : Int64) (w : wS) : Prop := (kx_inb x1 (w_n w 12 0 26) = true ∧ (if ¬ w_a w 12 0 26 (x1).toNatClampNeg = 38 then zb_X13_typeDeclaration_p608 E L Q x2 w else (kx_inb x1 (w_n w 12 0 41) = true ∧ (kx_inb x1 (w_n w 12 0 33) = true ∧ zw E (L - 23) kt_M602 [.ref (w_adr E.2.1 12 0), .int (w_a w 12 0 41 (x1).toNatClampNeg), .int (w_a w 12 0 33 (x1).toNatClampNeg)] w (wk0 (fun w1 => wle w w1 → zb_X13_typeDeclaration_p608 E L Q x2 w1) (fun e w => Q (.inr e) w))))))
theorem zt_X13_typeDeclaration_p581 {E : zE} {L : Nat} {Q : kx_Rs → wS → Prop} {x1 : Int32} {x2 : Int64} {w : wS} (hL : 26 ≤ L) (h : zb_X13_typeDeclaration_p581 E L Q x1 x2 w) : kzE E L kt_M574 581 [(0, .ref (w_adr E.2.1 12 0)), (1, .int x1), (2, .long (x2))] [] w Q := by
  unfold zb_X13_typeDeclaration_p581 at h
  refine kz_aload_n (M := kt_M574) kX13_typeDeclaration_c38.2.2.2.2.2.2.2.1 rfl ?_
  refine kz_gfc (M := kt_M574) (x := 4098) (c := 12) (o := 0) kX13_typeDeclaration_c39.1 wf_X13_187 (.inl rfl) ?_
  refine kz_iload_n (M := kt_M574) kX13_typeDeclaration_c39.2.1 rfl ?_
  refine kz_iald (M := kt_M574) (c := 12) (o := 0) (k := 26) (a := (E.2.1 4098)) kX13_typeDeclaration_c39.2.2.1 ow_12_0_26 oa_12_0_26 ot_0 h (fun h => ?_)
  refine kz_bi (M := kt_M574) 38 kX13_typeDeclaration_c39.2.2.2.1 rfl ?_
  refine kz_icmp_ne (M := kt_M574) kX13_typeDeclaration_c39.2.2.2.2.1 (t := 608) rfl h (fun h => ?_) (fun h => ?_)
  · skip
    exact kz_weak [(0, .ref (w_adr E.2.1 12 0)), (2, .long (x2))] ⟨rfl, ⟨rfl, trivial⟩⟩ rfl (zt_X13_typeDeclaration_p608 hL  h)
  · skip
    refine kz_aload_n (M := kt_M574) kX13_typeDeclaration_c39.2.2.2.2.2.1 rfl ?_
    refine kz_aload_n (M := kt_M574) kX13_typeDeclaration_c39.2.2.2.2.2.2.1 rfl ?_
    refine kz_gfc (M := kt_M574) (x := 4113) (c := 12) (o := 0) kX13_typeDeclaration_c39.2.2.2.2.2.2.2.1 wf_X13_214 (.inl rfl) ?_
    refine kz_iload_n (M := kt_M574) kX13_typeDeclaration_c40.1 rfl ?_
    refine kz_iald (M := kt_M574) (c := 12) (o := 0) (k := 41) (a := (E.2.1 4113)) kX13_typeDeclaration_c40.2.1 ow_12_0_41 oa_12_0_41 ot_0 h (fun h => ?_)
    refine kz_aload_n (M := kt_M574) kX13_typeDeclaration_c40.2.2.1 rfl ?_
    refine kz_gfc (M := kt_M574) (x := 4105) (c := 12) (o := 0) kX13_typeDeclaration_c40.2.2.2.1 wf_X13_208 (.inl rfl) ?_
    refine kz_iload_n (M := kt_M574) kX13_typeDeclaration_c40.2.2.2.2.1 rfl ?_
    refine kz_iald (M := kt_M574) (c := 12) (o := 0) (k := 33) (a := (E.2.1 4105)) kX13_typeDeclaration_c40.2.2.2.2.2.1 ow_12_0_33 oa_12_0_33 ot_0 h (fun h => ?_)
    refine kz_cv0 (M := kt_M574) (c := 12) (o := 0) (As := [.int (w_a w 12 0 41 (x1).toNatClampNeg), .int (w_a w 12 0 33 (x1).toNatClampNeg)]) (rest := []) kX13_typeDeclaration_c40.2.2.2.2.2.2.1 wl_X13_880 wMv_602 rfl (.inl rfl) rfl (Nat.le_trans (Nat.le_of_ble_eq_true rfl) hL) (Nat.le_of_ble_eq_true rfl) (Nat.le_of_ble_eq_true rfl) h (fun w1 hle h => ?_) (fun _ _ _ h => kzx_no rfl h)
    have h := h hle
    exact kz_weak [(0, .ref (w_adr E.2.1 12 0)), (2, .long (x2))] ⟨rfl, ⟨rfl, trivial⟩⟩ rfl (zt_X13_typeDeclaration_p608 hL  h)
def zb_X13_typeDeclaration_p562 (E : zE) (L : Nat) (Q : kx_Rs → wS → Prop) (x1 : Int32) (x2 : Int64) (w : wS) : Prop := (kx_inb x1 (w_n w 12 0 29) = true ∧ (if w_a w 12 0 29 (x1).toNatClampNeg < 0 then zb_X13_typeDeclaration_p581 E L Q x1 x2 w else (kx_inb x1 (w_n w 12 0 29) = true ∧ zw E (L - 21) kt_M571 [.ref (w_adr E.2.1 12 0), .int (w_a w 12 0 29 (x1).toNatClampNeg)] w (wk0 (fun w1 => wle w w1 → zb_X13_typeDeclaration_p581 E L Q x1 x2 w1) (fun e w => Q (.inr e) w)))))
theorem zt_X13_typeDeclaration_p562 {E : zE} {L : Nat} {Q : kx_Rs → wS → Prop} {x1 : Int32} {x2 : Int64} {w : wS} (hL : 26 ≤ L) (h : zb_X13_typeDeclaration_p562 E L Q x1 x2 w) : kzE E L kt_M574 562 [(0, .ref (w_adr E.2.1 12 0)), (1, .int x1), (2, .long (x2))] [] w Q := by
  unfold zb_X13_typeDeclaration_p562 at h
  refine kz_aload_n (M := kt_M574) kX13_typeDeclaration_c37.2.2.2.2.1 rfl ?_
  refine kz_gfc (M := kt_M574) (x := 4101) (c := 12) (o := 0) kX13_typeDeclaration_c37.2.2.2.2.2.1 wf_X13_196 (.inl rfl) ?_
  refine kz_iload_n (M := kt_M574) kX13_typeDeclaration_c37.2.2.2.2.2.2.1 rfl ?_
  refine kz_iald (M := kt_M574) (c := 12) (o := 0) (k := 29) (a := (E.2.1 4101)) kX13_typeDeclaration_c37.2.2.2.2.2.2.2.1 ow_12_0_29 oa_12_0_29 ot_0 h (fun h => ?_)
  refine kz_if_lt (M := kt_M574) kX13_typeDeclaration_c38.1 (t := 581) rfl h (fun h => ?_) (fun h => ?_)
  · skip
    exact kz_weak [(0, .ref (w_adr E.2.1 12 0)), (1, .int x1), (2, .long (x2))] ⟨rfl, ⟨rfl, ⟨rfl, trivial⟩⟩⟩ rfl (zt_X13_typeDeclaration_p581 hL  h)
  · skip
    refine kz_aload_n (M := kt_M574) kX13_typeDeclaration_c38.2.1 rfl ?_
    refine kz_aload_n (M := kt_M574) kX13_typeDeclaration_c38.2.2.1 rfl ?_
    refine kz_gfc (M := kt_M574) (x := 4101) (c := 12) (o := 0) kX13_typeDeclaration_c38.2.2.2.1 wf_X13_196 (.inl rfl) ?_
    refine kz_iload_n (M := kt_M574) kX13_typeDeclaration_c38.2.2.2.2.1 rfl ?_
    refine kz_iald (M := kt_M574) (c := 12) (o := 0) (k := 29) (a := (E.2.1 4101)) kX13_typeDeclaration_c38.2.2.2.2.2.1 ow_12_0_29 oa_12_0_29 ot_0 h (fun h => ?_)
    refine kz_cv0 (M := kt_M574) (c := 12) (o := 0) (As := [.int (w_a w 12 0 29 (x1).toNatClampNeg)]) (rest := []) kX13_typeDeclaration_c38.2.2.2.2.2.2.1 wl_X13_910 wMv_571 rfl (.inl rfl) rfl (Nat.le_trans (Nat.le_of_ble_eq_true rfl) hL) (Nat.le_of_ble_eq_true rfl) (Nat.le_of_ble_eq_true rfl) h (fun w1 hle h => ?_) (fun _ _ _ h => kzx_no rfl h)
    have h := h hle
    exact kz_weak [(0, .ref (w_adr E.2.1 12 0)), (1, .int x1), (2, .long (x2))] ⟨rfl, ⟨rfl, ⟨rfl, trivial⟩⟩⟩ rfl (zt_X13_typeDeclaration_p581 hL  h)
def zb_X13_typeDeclaration_p504 (E : zE) (L : Nat) (Q : kx_Rs → wS → Prop) (x2 : Int32) (w : wS) : Prop := (if x2 < 0 then Q (.inl none) w else (kx_inb x2 (w_n w 12 0 29) = true ∧ (kx_inb x2 (w_n w 12 0 27) = true ∧ zw E (L - 26) kt_M584 [.ref (w_adr E.2.1 12 0), .int (w_a w 12 0 29 (x2).toNatClampNeg), .int 1, .int (w_a w 12 0 27 (x2).toNatClampNeg)] w (wk0 (fun w1 => wle w w1 → (kx_inb x2 (w_n w1 12 0 32) = true ∧ zL_X13_typeDeclaration_p504 E L Q (w_a w1 12 0 32 (x2).toNatClampNeg) w1)) (fun e w => Q (.inr e) w)))))
theorem zt_X13_typeDeclaration_p504 {E : zE} {L : Nat} {Q : kx_Rs → wS → Prop} {x2 : Int32} {w : wS} (hL : 26 ≤ L) (h : zb_X13_typeDeclaration_p504 E L Q x2 w) : kzE E L kt_M574 504 [(0, .ref (w_adr E.2.1 12 0)), (2, .int x2)] [] w Q := by
  unfold zb_X13_typeDeclaration_p504 at h
  refine kz_iload_n (M := kt_M574) kX13_typeDeclaration_c33.2.1 rfl ?_
  refine kz_if_lt (M := kt_M574) kX13_typeDeclaration_c33.2.2.1 (t := 535) rfl h (fun h => ?_) (fun h => ?_)
  · skip
    exact kz_ret (M := kt_M574) kX13_typeDeclaration_c35.2.2.2.2.1 rfl h
  · skip
    refine kz_aload_n (M := kt_M574) kX13_typeDeclaration_c33.2.2.2.1 rfl ?_
    refine kz_aload_n (M := kt_M574) kX13_typeDeclaration_c33.2.2.2.2.1 rfl ?_
    refine kz_gfc (M := kt_M574) (x := 4101) (c := 12) (o := 0) kX13_typeDeclaration_c33.2.2.2.2.2.1 wf_X13_196 (.inl rfl) ?_
    refine kz_iload_n (M := kt_M574) kX13_typeDeclaration_c33.2.2.2.2.2.2.1 rfl ?_
    refine kz_iald (M := kt_M574) (c := 12) (o := 0) (k := 29) (a := (E.2.1 4101)) kX13_typeDeclaration_c33.2.2.2.2.2.2.2.1 ow_12_0_29 oa_12_0_29 ot_0 h (fun h => ?_)
    refine kz_ic (M := kt_M574) 1 kX13_typeDeclaration_c34.1 rfl ?_
    refine kz_aload_n (M := kt_M574) kX13_typeDeclaration_c34.2.1 rfl ?_
    refine kz_gfc (M := kt_M574) (x := 4099) (c := 12) (o := 0) kX13_typeDeclaration_c34.2.2.1 wf_X13_190 (.inl rfl) ?_
    refine kz_iload_n (M := kt_M574) kX13_typeDeclaration_c34.2.2.2.1 rfl ?_
    refine kz_iald (M := kt_M574) (c := 12) (o := 0) (k := 27) (a := (E.2.1 4099)) kX13_typeDeclaration_c34.2.2.2.2.1 ow_12_0_27 oa_12_0_27 ot_0 h (fun h => ?_)
    refine kz_cv0 (M := kt_M574) (c := 12) (o := 0) (As := [.int (w_a w 12 0 29 (x2).toNatClampNeg), .int 1, .int (w_a w 12 0 27 (x2).toNatClampNeg)]) (rest := []) kX13_typeDeclaration_c34.2.2.2.2.2.1 wl_X13_934 wMv_584 rfl (.inl rfl) rfl (Nat.le_trans (Nat.le_of_ble_eq_true rfl) hL) (Nat.le_of_ble_eq_true rfl) (Nat.le_of_ble_eq_true rfl) h (fun w1 hle h => ?_) (fun _ _ _ h => kzx_no rfl h)
    have h := h hle
    refine kz_aload_n (M := kt_M574) kX13_typeDeclaration_c34.2.2.2.2.2.2.1 rfl ?_
    refine kz_gfc (M := kt_M574) (x := 4104) (c := 12) (o := 0) kX13_typeDeclaration_c34.2.2.2.2.2.2.2.1 wf_X13_205 (.inl rfl) ?_
    refine kz_iload_n (M := kt_M574) kX13_typeDeclaration_c35.1 rfl ?_
    refine kz_iald (M := kt_M574) (c := 12) (o := 0) (k := 32) (a := (E.2.1 4104)) kX13_typeDeclaration_c35.2.1 ow_12_0_32 oa_12_0_32 ot_0 h (fun h => ?_)
    refine kz_sti_n (M := kt_M574) [(0, .ref (w_adr E.2.1 12 0))] kX13_typeDeclaration_c35.2.2.1 (Nat.le_of_ble_eq_true rfl) ⟨⟨rfl, rfl, .inl rfl⟩, trivial⟩ rfl ?_
    refine kz_goto (M := kt_M574) kX13_typeDeclaration_c35.2.2.2.1 (t := 504) rfl ?_
    exact kz_weak [(0, .ref (w_adr E.2.1 12 0)), (2, .int (w_a w1 12 0 32 (x2).toNatClampNeg))] ⟨rfl, ⟨rfl, trivial⟩⟩ rfl h
def zb_X13_typeDeclaration_p478 (E : zE) (L : Nat) (Q : kx_Rs → wS → Prop) (w : wS) : Prop := Q (.inl none) w
theorem zt_X13_typeDeclaration_p478 {E : zE} {L : Nat} {Q : kx_Rs → wS → Prop} {w : wS} (hL : 26 ≤ L) (h : zb_X13_typeDeclaration_p478 E L Q  w) : kzE E L kt_M574 478 [(0, .ref (w_adr E.2.1 12 0))] [] w Q := by
  unfold zb_X13_typeDeclaration_p478 at h
  exact kz_ret (M := kt_M574) kX13_typeDeclaration_c30.2.2.2.2.2.2.2.1 rfl h
def zb_X13_typeDeclaration_p456 (E : zE) (L : Nat) (Q : kx_Rs → wS → Prop) (x2 : Int32) (x4 : Int32) (w : wS) : Prop := (if x4 = 0 then zb_X13_typeDeclaration_p478 E L Q w else (if w_i w 12 0 73 < 0 then zb_X13_typeDeclaration_p478 E L Q w else (kx_inb x2 (w_n w 12 0 48) = true ∧ zb_X13_typeDeclaration_p478 E L Q (ws_a w 12 0 48 (x2).toNatClampNeg (w_i w 12 0 73)))))
theorem zt_X13_typeDeclaration_p456 {E : zE} {L : Nat} {Q : kx_Rs → wS → Prop} {x2 : Int32} {x4 : Int32} {w : wS} (hL : 26 ≤ L) (h : zb_X13_typeDeclaration_p456 E L Q x2 x4 w) : kzE E L kt_M574 456 [(0, .ref (w_adr E.2.1 12 0)), (2, .int x2), (4, .int x4)] [] w Q := by
  unfold zb_X13_typeDeclaration_p456 at h
  refine kz_iload (M := kt_M574) kX13_typeDeclaration_c29.2.2.2.2.1 rfl ?_
  refine kz_if_eq (M := kt_M574) kX13_typeDeclaration_c29.2.2.2.2.2.1 (t := 478) rfl h (fun h => ?_) (fun h => ?_)
  · skip
    exact kz_weak [(0, .ref (w_adr E.2.1 12 0))] ⟨rfl, trivial⟩ rfl (zt_X13_typeDeclaration_p478 hL  h)
  · skip
    refine kz_aload_n (M := kt_M574) kX13_typeDeclaration_c29.2.2.2.2.2.2.1 rfl ?_
    refine kz_gfi (M := kt_M574) (c := 12) (o := 0) kX13_typeDeclaration_c29.2.2.2.2.2.2.2.1 wf_X13_859 (.inl rfl) ?_
    refine kz_if_lt (M := kt_M574) kX13_typeDeclaration_c30.1 (t := 478) rfl h (fun h => ?_) (fun h => ?_)
    · skip
      exact kz_weak [(0, .ref (w_adr E.2.1 12 0))] ⟨rfl, trivial⟩ rfl (zt_X13_typeDeclaration_p478 hL  h)
    · skip
      refine kz_aload_n (M := kt_M574) kX13_typeDeclaration_c30.2.1 rfl ?_
      refine kz_gfc (M := kt_M574) (x := 4120) (c := 12) (o := 0) kX13_typeDeclaration_c30.2.2.1 wf_X13_229 (.inl rfl) ?_
      refine kz_iload_n (M := kt_M574) kX13_typeDeclaration_c30.2.2.2.1 rfl ?_
      refine kz_aload_n (M := kt_M574) kX13_typeDeclaration_c30.2.2.2.2.1 rfl ?_
      refine kz_gfi (M := kt_M574) (c := 12) (o := 0) kX13_typeDeclaration_c30.2.2.2.2.2.1 wf_X13_859 (.inl rfl) ?_
      refine kz_iast (M := kt_M574) (c := 12) (o := 0) (k := 48) (a := (E.2.1 4120)) kX13_typeDeclaration_c30.2.2.2.2.2.2.1 ow_12_0_48 oa_12_0_48 ot_0 h (fun h => ?_)
      exact kz_weak [(0, .ref (w_adr E.2.1 12 0))] ⟨rfl, trivial⟩ rfl (zt_X13_typeDeclaration_p478 hL  h)
def zb_X13_typeDeclaration_p444 (E : zE) (L : Nat) (Q : kx_Rs → wS → Prop) (x1 : Int32) (x2 : Int32) (x4 : Int32) (w : wS) : Prop := (kx_inb x1 (w_n w 12 0 27) = true ∧ zw E (L - 22) kt_M560 [.ref (w_adr E.2.1 12 0), .int 7, .int (w_a w 12 0 27 (x1).toNatClampNeg)] w (wk0 (fun w1 => wle w w1 → zb_X13_typeDeclaration_p456 E L Q x2 x4 w1) (fun e w => Q (.inr e) w)))
theorem zt_X13_typeDeclaration_p444 {E : zE} {L : Nat} {Q : kx_Rs → wS → Prop} {x1 : Int32} {x2 : Int32} {x4 : Int32} {w : wS} (hL : 26 ≤ L) (h : zb_X13_typeDeclaration_p444 E L Q x1 x2 x4 w) : kzE E L kt_M574 444 [(0, .ref (w_adr E.2.1 12 0)), (1, .int x1), (2, .int x2), (4, .int x4)] [] w Q := by
  unfold zb_X13_typeDeclaration_p444 at h
  refine kz_aload_n (M := kt_M574) kX13_typeDeclaration_c28.2.2.2.2.2.1 rfl ?_
  refine kz_bi (M := kt_M574) 7 kX13_typeDeclaration_c28.2.2.2.2.2.2.1 rfl ?_
  refine kz_aload_n (M := kt_M574) kX13_typeDeclaration_c28.2.2.2.2.2.2.2.1 rfl ?_
  refine kz_gfc (M := kt_M574) (x := 4099) (c := 12) (o := 0) kX13_typeDeclaration_c29.1 wf_X13_190 (.inl rfl) ?_
  refine kz_iload_n (M := kt_M574) kX13_typeDeclaration_c29.2.1 rfl ?_
  refine kz_iald (M := kt_M574) (c := 12) (o := 0) (k := 27) (a := (E.2.1 4099)) kX13_typeDeclaration_c29.2.2.1 ow_12_0_27 oa_12_0_27 ot_0 h (fun h => ?_)
  refine kz_cv0 (M := kt_M574) (c := 12) (o := 0) (As := [.int 7, .int (w_a w 12 0 27 (x1).toNatClampNeg)]) (rest := []) kX13_typeDeclaration_c29.2.2.2.1 wl_X13_734 wMv_560 rfl (.inl rfl) rfl (Nat.le_trans (Nat.le_of_ble_eq_true rfl) hL) (Nat.le_of_ble_eq_true rfl) (Nat.le_of_ble_eq_true rfl) h (fun w1 hle h => ?_) (fun _ _ _ h => kzx_no rfl h)
  have h := h hle
  exact kz_weak [(0, .ref (w_adr E.2.1 12 0)), (2, .int x2), (4, .int x4)] ⟨rfl, ⟨rfl, ⟨rfl, trivial⟩⟩⟩ rfl (zt_X13_typeDeclaration_p456 hL  h)
def zb_X13_typeDeclaration_p439 (E : zE) (L : Nat) (Q : kx_Rs → wS → Prop) (x1 : Int32) (x2 : Int32) (x4 : Int32) (y0 : Int32) (w : wS) : Prop := (if ¬ y0 = x4 then zb_X13_typeDeclaration_p456 E L Q x2 x4 w else zb_X13_typeDeclaration_p444 E L Q x1 x2 x4 w)
theorem zt_X13_typeDeclaration_p439 {E : zE} {L : Nat} {Q : kx_Rs → wS → Prop} {x1 : Int32} {x2 : Int32} {x4 : Int32} {y0 : Int32} {w : wS} (hL : 26 ≤ L) (h : zb_X13_typeDeclaration_p439 E L Q x1 x2 x4 y0 w) : kzE E L kt_M574 439 [(0, .ref (w_adr E.2.1 12 0)), (1, .int x1), (2, .int x2), (4, .int x4)] [.int y0] w Q := by
  unfold zb_X13_typeDeclaration_p439 at h
  refine kz_iload (M := kt_M574) kX13_typeDeclaration_c28.2.2.2.1 rfl ?_
  refine kz_icmp_ne (M := kt_M574) kX13_typeDeclaration_c28.2.2.2.2.1 (t := 456) rfl h (fun h => ?_) (fun h => ?_)
  · skip
    exact kz_weak [(0, .ref (w_adr E.2.1 12 0)), (2, .int x2), (4, .int x4)] ⟨rfl, ⟨rfl, ⟨rfl, trivial⟩⟩⟩ rfl (zt_X13_typeDeclaration_p456 hL  h)
  · skip
    exact kz_weak [(0, .ref (w_adr E.2.1 12 0)), (1, .int x1), (2, .int x2), (4, .int x4)] ⟨rfl, ⟨rfl, ⟨rfl, ⟨rfl, trivial⟩⟩⟩⟩ rfl (zt_X13_typeDeclaration_p444 hL  h)
def zb_X13_typeDeclaration_p399 (E : zE) (L : Nat) (Q : kx_Rs → wS → Prop) (x1 : Int32) (x2 : Int32) (x3 : Int32) (y0 : Int32) (w : wS) : Prop := (if x3 = (-1) then zb_X13_typeDeclaration_p456 E L Q x2 y0 w else (kx_inb x2 (w_n w 12 0 47) = true ∧ (if w_a w 12 0 47 (x2).toNatClampNeg = (-1) then zb_X13_typeDeclaration_p456 E L Q x2 y0 w else (kx_inb x2 (w_n w 12 0 47) = true ∧ (if ¬ x3 = w_a w 12 0 47 (x2).toNatClampNeg then zb_X13_typeDeclaration_p444 E L Q x1 x2 y0 w else (if ¬ w_i w 12 0 73 = (-1) then zb_X13_typeDeclaration_p439 E L Q x1 x2 y0 0 w else zb_X13_typeDeclaration_p439 E L Q x1 x2 y0 1 w))))))
theorem zt_X13_typeDeclaration_p399 {E : zE} {L : Nat} {Q : kx_Rs → wS → Prop} {x1 : Int32} {x2 : Int32} {x3 : Int32} {y0 : Int32} {w : wS} (hL : 26 ≤ L) (h : zb_X13_typeDeclaration_p399 E L Q x1 x2 x3 y0 w) : kzE E L kt_M574 399 [(0, .ref (w_adr E.2.1 12 0)), (1, .int x1), (2, .int x2), (3, .int x3)] [.int y0] w Q := by
  unfold zb_X13_typeDeclaration_p399 at h
  refine kz_sti (M := kt_M574) [(0, .ref (w_adr E.2.1 12 0)), (1, .int x1), (2, .int x2), (3, .int x3)] kX13_typeDeclaration_c25.2.2.2.2.1 (Nat.le_of_ble_eq_true rfl) ⟨⟨rfl, rfl, .inl rfl⟩, ⟨⟨rfl, rfl, .inl rfl⟩, ⟨⟨rfl, rfl, .inl rfl⟩, ⟨⟨rfl, rfl, .inr rfl⟩, trivial⟩⟩⟩⟩ rfl ?_
  refine kz_iload_n (M := kt_M574) kX13_typeDeclaration_c25.2.2.2.2.2.1 rfl ?_
  refine kz_ic (M := kt_M574) (-1) kX13_typeDeclaration_c25.2.2.2.2.2.2.1 rfl ?_
  refine kz_icmp_eq (M := kt_M574) kX13_typeDeclaration_c25.2.2.2.2.2.2.2.1 (t := 456) rfl h (fun h => ?_) (fun h => ?_)
  · skip
    exact kz_weak [(0, .ref (w_adr E.2.1 12 0)), (2, .int x2), (4, .int y0)] ⟨rfl, ⟨rfl, ⟨rfl, trivial⟩⟩⟩ rfl (zt_X13_typeDeclaration_p456 hL  h)
  · skip
    refine kz_aload_n (M := kt_M574) kX13_typeDeclaration_c26.1 rfl ?_
    refine kz_gfc (M := kt_M574) (x := 4119) (c := 12) (o := 0) kX13_typeDeclaration_c26.2.1 wf_X13_226 (.inl rfl) ?_
    refine kz_iload_n (M := kt_M574) kX13_typeDeclaration_c26.2.2.1 rfl ?_
    refine kz_iald (M := kt_M574) (c := 12) (o := 0) (k := 47) (a := (E.2.1 4119)) kX13_typeDeclaration_c26.2.2.2.1 ow_12_0_47 oa_12_0_47 ot_0 h (fun h => ?_)
    refine kz_ic (M := kt_M574) (-1) kX13_typeDeclaration_c26.2.2.2.2.1 rfl ?_
    refine kz_icmp_eq (M := kt_M574) kX13_typeDeclaration_c26.2.2.2.2.2.1 (t := 456) rfl h (fun h => ?_) (fun h => ?_)
    · skip
      exact kz_weak [(0, .ref (w_adr E.2.1 12 0)), (2, .int x2), (4, .int y0)] ⟨rfl, ⟨rfl, ⟨rfl, trivial⟩⟩⟩ rfl (zt_X13_typeDeclaration_p456 hL  h)
    · skip
      refine kz_iload_n (M := kt_M574) kX13_typeDeclaration_c26.2.2.2.2.2.2.1 rfl ?_
      refine kz_aload_n (M := kt_M574) kX13_typeDeclaration_c26.2.2.2.2.2.2.2.1 rfl ?_
      refine kz_gfc (M := kt_M574) (x := 4119) (c := 12) (o := 0) kX13_typeDeclaration_c27.1 wf_X13_226 (.inl rfl) ?_
      refine kz_iload_n (M := kt_M574) kX13_typeDeclaration_c27.2.1 rfl ?_
      refine kz_iald (M := kt_M574) (c := 12) (o := 0) (k := 47) (a := (E.2.1 4119)) kX13_typeDeclaration_c27.2.2.1 ow_12_0_47 oa_12_0_47 ot_0 h (fun h => ?_)
      refine kz_icmp_ne (M := kt_M574) kX13_typeDeclaration_c27.2.2.2.1 (t := 444) rfl h (fun h => ?_) (fun h => ?_)
      · skip
        exact kz_weak [(0, .ref (w_adr E.2.1 12 0)), (1, .int x1), (2, .int x2), (4, .int y0)] ⟨rfl, ⟨rfl, ⟨rfl, ⟨rfl, trivial⟩⟩⟩⟩ rfl (zt_X13_typeDeclaration_p444 hL  h)
      · skip
        refine kz_aload_n (M := kt_M574) kX13_typeDeclaration_c27.2.2.2.2.1 rfl ?_
        refine kz_gfi (M := kt_M574) (c := 12) (o := 0) kX13_typeDeclaration_c27.2.2.2.2.2.1 wf_X13_859 (.inl rfl) ?_
        refine kz_ic (M := kt_M574) (-1) kX13_typeDeclaration_c27.2.2.2.2.2.2.1 rfl ?_
        refine kz_icmp_ne (M := kt_M574) kX13_typeDeclaration_c27.2.2.2.2.2.2.2.1 (t := 438) rfl h (fun h => ?_) (fun h => ?_)
        · skip
          refine kz_ic (M := kt_M574) 0 kX13_typeDeclaration_c28.2.2.1 rfl ?_
          exact kz_weak [(0, .ref (w_adr E.2.1 12 0)), (1, .int x1), (2, .int x2), (4, .int y0)] ⟨rfl, ⟨rfl, ⟨rfl, ⟨rfl, trivial⟩⟩⟩⟩ rfl (zt_X13_typeDeclaration_p439 hL  h)
        · skip
          refine kz_ic (M := kt_M574) 1 kX13_typeDeclaration_c28.1 rfl ?_
          refine kz_goto (M := kt_M574) kX13_typeDeclaration_c28.2.1 (t := 439) rfl ?_
          exact kz_weak [(0, .ref (w_adr E.2.1 12 0)), (1, .int x1), (2, .int x2), (4, .int y0)] ⟨rfl, ⟨rfl, ⟨rfl, ⟨rfl, trivial⟩⟩⟩⟩ rfl (zt_X13_typeDeclaration_p439 hL  h)
def zb_X13_typeDeclaration_p363 (E : zE) (L : Nat) (Q : kx_Rs → wS → Prop) (y0 : Int32) (y1 : Int32) (w : wS) : Prop := (kx_inb y1 (w_n w 12 0 69) = true ∧ Q (.inl none) (ws_a w 12 0 69 (y1).toNatClampNeg y0))
theorem zt_X13_typeDeclaration_p363 {E : zE} {L : Nat} {Q : kx_Rs → wS → Prop} {y0 : Int32} {y1 : Int32} {w : wS} (hL : 26 ≤ L) (h : zb_X13_typeDeclaration_p363 E L Q y0 y1 w) : kzE E L kt_M574 363 [(0, .ref (w_adr E.2.1 12 0))] [.int y0, .int y1, .ref (E.2.1 4141)] w Q := by
  unfold zb_X13_typeDeclaration_p363 at h
  refine kz_iast (M := kt_M574) (c := 12) (o := 0) (k := 69) (a := (E.2.1 4141)) kX13_typeDeclaration_c22.2.2.2.2.1 ow_12_0_69 oa_12_0_69 ot_0 h (fun h => ?_)
  exact kz_ret (M := kt_M574) kX13_typeDeclaration_c22.2.2.2.2.2.1 rfl h
def zb_X13_typeDeclaration_p340 (E : zE) (L : Nat) (Q : kx_Rs → wS → Prop) (x2 : Int32) (y0 : Int32) (y1 : Int32) (w : wS) : Prop := (kx_inb y1 (w_n w 12 0 68) = true ∧ (kx_inb x2 (w_n w 12 0 68) = true ∧ (if w_a (ws_a w 12 0 68 (y1).toNatClampNeg (vp_nar .boolean y0)) 12 0 68 (x2).toNatClampNeg = 0 then zb_X13_typeDeclaration_p363 E L Q 0 x2 (ws_a w 12 0 68 (y1).toNatClampNeg (vp_nar .boolean y0)) else zb_X13_typeDeclaration_p363 E L Q (w_i w 12 0 24) x2 (ws_a w 12 0 68 (y1).toNatClampNeg (vp_nar .boolean y0)))))
theorem zt_X13_typeDeclaration_p340 {E : zE} {L : Nat} {Q : kx_Rs → wS → Prop} {x2 : Int32} {y0 : Int32} {y1 : Int32} {w : wS} (hL : 26 ≤ L) (h : zb_X13_typeDeclaration_p340 E L Q x2 y0 y1 w) : kzE E L kt_M574 340 [(0, .ref (w_adr E.2.1 12 0)), (2, .int x2)] [.int y0, .int y1, .ref (E.2.1 4140)] w Q := by
  unfold zb_X13_typeDeclaration_p340 at h
  refine kz_zast (M := kt_M574) (c := 12) (o := 0) (k := 68) (a := (E.2.1 4140)) kX13_typeDeclaration_c20.2.2.2.2.2.2.2.1 ow_12_0_68 oa_12_0_68 ot_2 h (fun h => ?_)
  refine kz_aload_n (M := kt_M574) kX13_typeDeclaration_c21.1 rfl ?_
  refine kz_gfc (M := kt_M574) (x := 4141) (c := 12) (o := 0) kX13_typeDeclaration_c21.2.1 wf_X13_275 (.inl rfl) ?_
  refine kz_iload_n (M := kt_M574) kX13_typeDeclaration_c21.2.2.1 rfl ?_
  refine kz_aload_n (M := kt_M574) kX13_typeDeclaration_c21.2.2.2.1 rfl ?_
  refine kz_gfc (M := kt_M574) (x := 4140) (c := 12) (o := 0) kX13_typeDeclaration_c21.2.2.2.2.1 wf_X13_272 (.inl rfl) ?_
  refine kz_iload_n (M := kt_M574) kX13_typeDeclaration_c21.2.2.2.2.2.1 rfl ?_
  refine kz_zaldR (M := kt_M574) (n := w_n w 12 0 68) (c := 12) (o := 0) (k := 68) (a := (E.2.1 4140)) (w_a (ws_a w 12 0 68 (y1).toNatClampNeg (vp_nar .boolean y0)) 12 0 68 (x2).toNatClampNeg) kX13_typeDeclaration_c21.2.2.2.2.2.2.1 ow_12_0_68 oa_12_0_68 ot_2 rd_n_a rfl h (fun h => ?_)
  refine kz_if_eq (M := kt_M574) kX13_typeDeclaration_c21.2.2.2.2.2.2.2.1 (t := 362) rfl h (fun h => ?_) (fun h => ?_)
  · skip
    refine kz_ic (M := kt_M574) 0 kX13_typeDeclaration_c22.2.2.2.1 rfl ?_
    exact kz_weak [(0, .ref (w_adr E.2.1 12 0))] ⟨rfl, trivial⟩ rfl (zt_X13_typeDeclaration_p363 hL  h)
  · skip
    refine kz_aload_n (M := kt_M574) kX13_typeDeclaration_c22.1 rfl ?_
    refine kz_gfiR (M := kt_M574) (c := 12) (o := 0) (w_i w 12 0 24) kX13_typeDeclaration_c22.2.1 wf_X13_493 (.inl rfl) rd_i_a ?_
    refine kz_goto (M := kt_M574) kX13_typeDeclaration_c22.2.2.1 (t := 363) rfl ?_
    exact kz_weak [(0, .ref (w_adr E.2.1 12 0))] ⟨rfl, trivial⟩ rfl (zt_X13_typeDeclaration_p363 hL  h)
def zb_X13_typeDeclaration_p339 (E : zE) (L : Nat) (Q : kx_Rs → wS → Prop) (x2 : Int32) (y0 : Int32) (w : wS) : Prop := zb_X13_typeDeclaration_p340 E L Q x2 0 y0 w
theorem zt_X13_typeDeclaration_p339 {E : zE} {L : Nat} {Q : kx_Rs → wS → Prop} {x2 : Int32} {y0 : Int32} {w : wS} (hL : 26 ≤ L) (h : zb_X13_typeDeclaration_p339 E L Q x2 y0 w) : kzE E L kt_M574 339 [(0, .ref (w_adr E.2.1 12 0)), (2, .int x2)] [.int y0, .ref (E.2.1 4140)] w Q := by
  unfold zb_X13_typeDeclaration_p339 at h
  refine kz_ic (M := kt_M574) 0 kX13_typeDeclaration_c20.2.2.2.2.2.2.1 rfl ?_
  exact kz_weak [(0, .ref (w_adr E.2.1 12 0)), (2, .int x2)] ⟨rfl, ⟨rfl, trivial⟩⟩ rfl (zt_X13_typeDeclaration_p340 hL  h)
def zb_X13_typeDeclaration_p299 (E : zE) (L : Nat) (Q : kx_Rs → wS → Prop) (x1 : Int32) (x2 : Int32) (x4 : Int32) (w : wS) : Prop := (if ¬ x4 = 0 then zb_X13_typeDeclaration_p339 E L Q x2 x2 w else (kx_inb x1 (w_n w 12 0 28) = true ∧ zw E (L - 23) kt_M440 [.ref (w_adr E.2.1 12 0), .int (w_a w 12 0 28 (x1).toNatClampNeg)] w (wk1 (fun v2 w1 => wle w w1 → (if v2 = 0 then zb_X13_typeDeclaration_p339 E L Q x2 x2 w1 else (kx_inb x1 (w_n w1 12 0 28) = true ∧ zw E (L - 23) kt_M428 [.ref (w_adr E.2.1 12 0), .int (w_a w1 12 0 28 (x1).toNatClampNeg)] w1 (wk1 (fun v4 w3 => wle w1 w3 → (if v4 = 0 then zb_X13_typeDeclaration_p339 E L Q x2 x2 w3 else zb_X13_typeDeclaration_p340 E L Q x2 1 x2 w3)) (fun e w => Q (.inr e) w))))) (fun e w => Q (.inr e) w))))
theorem zt_X13_typeDeclaration_p299 {E : zE} {L : Nat} {Q : kx_Rs → wS → Prop} {x1 : Int32} {x2 : Int32} {x4 : Int32} {w : wS} (hL : 26 ≤ L) (h : zb_X13_typeDeclaration_p299 E L Q x1 x2 x4 w) : kzE E L kt_M574 299 [(0, .ref (w_adr E.2.1 12 0)), (1, .int x1), (2, .int x2), (4, .int x4)] [] w Q := by
  unfold zb_X13_typeDeclaration_p299 at h
  refine kz_aload_n (M := kt_M574) kX13_typeDeclaration_c18.2.1 rfl ?_
  refine kz_gfc (M := kt_M574) (x := 4140) (c := 12) (o := 0) kX13_typeDeclaration_c18.2.2.1 wf_X13_272 (.inl rfl) ?_
  refine kz_iload_n (M := kt_M574) kX13_typeDeclaration_c18.2.2.2.1 rfl ?_
  refine kz_iload (M := kt_M574) kX13_typeDeclaration_c18.2.2.2.2.1 rfl ?_
  refine kz_if_ne (M := kt_M574) kX13_typeDeclaration_c18.2.2.2.2.2.1 (t := 339) rfl h (fun h => ?_) (fun h => ?_)
  · skip
    exact kz_weak [(0, .ref (w_adr E.2.1 12 0)), (2, .int x2)] ⟨rfl, ⟨rfl, trivial⟩⟩ rfl (zt_X13_typeDeclaration_p339 hL  h)
  · skip
    refine kz_aload_n (M := kt_M574) kX13_typeDeclaration_c18.2.2.2.2.2.2.1 rfl ?_
    refine kz_aload_n (M := kt_M574) kX13_typeDeclaration_c18.2.2.2.2.2.2.2.1 rfl ?_
    refine kz_gfc (M := kt_M574) (x := 4100) (c := 12) (o := 0) kX13_typeDeclaration_c19.1 wf_X13_193 (.inl rfl) ?_
    refine kz_iload_n (M := kt_M574) kX13_typeDeclaration_c19.2.1 rfl ?_
    refine kz_iald (M := kt_M574) (c := 12) (o := 0) (k := 28) (a := (E.2.1 4100)) kX13_typeDeclaration_c19.2.2.1 ow_12_0_28 oa_12_0_28 ot_0 h (fun h => ?_)
    refine kz_cv1 (M := kt_M574) (c := 12) (o := 0) (As := [.int (w_a w 12 0 28 (x1).toNatClampNeg)]) (rest := [.int x2, .ref (E.2.1 4140)]) kX13_typeDeclaration_c19.2.2.2.1 wl_X13_816 wMv_440 rfl (.inl rfl) rfl (Nat.le_trans (Nat.le_of_ble_eq_true rfl) hL) (Nat.le_of_ble_eq_true rfl) (Nat.le_of_ble_eq_true rfl) h (fun v2 w1 hle h => ?_) (fun _ _ _ h => kzx_no rfl h)
    have h := h hle
    refine kz_if_eq (M := kt_M574) kX13_typeDeclaration_c19.2.2.2.2.1 (t := 339) rfl h (fun h => ?_) (fun h => ?_)
    · skip
      exact kz_weak [(0, .ref (w_adr E.2.1 12 0)), (2, .int x2)] ⟨rfl, ⟨rfl, trivial⟩⟩ rfl (zt_X13_typeDeclaration_p339 hL  h)
    · skip
      refine kz_aload_n (M := kt_M574) kX13_typeDeclaration_c19.2.2.2.2.2.1 rfl ?_
      refine kz_aload_n (M := kt_M574) kX13_typeDeclaration_c19.2.2.2.2.2.2.1 rfl ?_
      refine kz_gfc (M := kt_M574) (x := 4100) (c := 12) (o := 0) kX13_typeDeclaration_c19.2.2.2.2.2.2.2.1 wf_X13_193 (.inl rfl) ?_
      refine kz_iload_n (M := kt_M574) kX13_typeDeclaration_c20.1 rfl ?_
      refine kz_iald (M := kt_M574) (c := 12) (o := 0) (k := 28) (a := (E.2.1 4100)) kX13_typeDeclaration_c20.2.1 ow_12_0_28 oa_12_0_28 ot_0 h (fun h => ?_)
      refine kz_cv1 (M := kt_M574) (c := 12) (o := 0) (As := [.int (w_a w1 12 0 28 (x1).toNatClampNeg)]) (rest := [.int x2, .ref (E.2.1 4140)]) kX13_typeDeclaration_c20.2.2.1 wl_X13_846 wMv_428 rfl (.inl rfl) rfl (Nat.le_trans (Nat.le_of_ble_eq_true rfl) hL) (Nat.le_of_ble_eq_true rfl) (Nat.le_of_ble_eq_true rfl) h (fun v4 w3 hle h => ?_) (fun _ _ _ h => kzx_no rfl h)
      have h := h hle
      refine kz_if_eq (M := kt_M574) kX13_typeDeclaration_c20.2.2.2.1 (t := 339) rfl h (fun h => ?_) (fun h => ?_)
      · skip
        exact kz_weak [(0, .ref (w_adr E.2.1 12 0)), (2, .int x2)] ⟨rfl, ⟨rfl, trivial⟩⟩ rfl (zt_X13_typeDeclaration_p339 hL  h)
      · skip
        refine kz_ic (M := kt_M574) 1 kX13_typeDeclaration_c20.2.2.2.2.1 rfl ?_
        refine kz_goto (M := kt_M574) kX13_typeDeclaration_c20.2.2.2.2.2.1 (t := 340) rfl ?_
        exact kz_weak [(0, .ref (w_adr E.2.1 12 0)), (2, .int x2)] ⟨rfl, ⟨rfl, trivial⟩⟩ rfl (zt_X13_typeDeclaration_p340 hL  h)
def zb_X13_typeDeclaration_p277 (E : zE) (L : Nat) (Q : kx_Rs → wS → Prop) (x1 : Int32) (x2 : Int32) (x4 : Int32) (w : wS) : Prop := (if x4 = 0 then zb_X13_typeDeclaration_p299 E L Q x1 x2 x4 w else (if w_i w 12 0 73 < 0 then zb_X13_typeDeclaration_p299 E L Q x1 x2 x4 w else (kx_inb x2 (w_n w 12 0 48) = true ∧ zb_X13_typeDeclaration_p299 E L Q x1 x2 x4 (ws_a w 12 0 48 (x2).toNatClampNeg (w_i w 12 0 73)))))
theorem zt_X13_typeDeclaration_p277 {E : zE} {L : Nat} {Q : kx_Rs → wS → Prop} {x1 : Int32} {x2 : Int32} {x4 : Int32} {w : wS} (hL : 26 ≤ L) (h : zb_X13_typeDeclaration_p277 E L Q x1 x2 x4 w) : kzE E L kt_M574 277 [(0, .ref (w_adr E.2.1 12 0)), (1, .int x1), (2, .int x2), (4, .int x4)] [] w Q := by
  unfold zb_X13_typeDeclaration_p277 at h
  refine kz_iload (M := kt_M574) kX13_typeDeclaration_c16.2.2.2.2.2.2.1 rfl ?_
  refine kz_if_eq (M := kt_M574) kX13_typeDeclaration_c16.2.2.2.2.2.2.2.1 (t := 299) rfl h (fun h => ?_) (fun h => ?_)
  · skip
    exact kz_weak [(0, .ref (w_adr E.2.1 12 0)), (1, .int x1), (2, .int x2), (4, .int x4)] ⟨rfl, ⟨rfl, ⟨rfl, ⟨rfl, trivial⟩⟩⟩⟩ rfl (zt_X13_typeDeclaration_p299 hL  h)
  · skip
    refine kz_aload_n (M := kt_M574) kX13_typeDeclaration_c17.1 rfl ?_
    refine kz_gfi (M := kt_M574) (c := 12) (o := 0) kX13_typeDeclaration_c17.2.1 wf_X13_859 (.inl rfl) ?_
    refine kz_if_lt (M := kt_M574) kX13_typeDeclaration_c17.2.2.1 (t := 299) rfl h (fun h => ?_) (fun h => ?_)
    · skip
      exact kz_weak [(0, .ref (w_adr E.2.1 12 0)), (1, .int x1), (2, .int x2), (4, .int x4)] ⟨rfl, ⟨rfl, ⟨rfl, ⟨rfl, trivial⟩⟩⟩⟩ rfl (zt_X13_typeDeclaration_p299 hL  h)
    · skip
      refine kz_aload_n (M := kt_M574) kX13_typeDeclaration_c17.2.2.2.1 rfl ?_
      refine kz_gfc (M := kt_M574) (x := 4120) (c := 12) (o := 0) kX13_typeDeclaration_c17.2.2.2.2.1 wf_X13_229 (.inl rfl) ?_
      refine kz_iload_n (M := kt_M574) kX13_typeDeclaration_c17.2.2.2.2.2.1 rfl ?_
      refine kz_aload_n (M := kt_M574) kX13_typeDeclaration_c17.2.2.2.2.2.2.1 rfl ?_
      refine kz_gfi (M := kt_M574) (c := 12) (o := 0) kX13_typeDeclaration_c17.2.2.2.2.2.2.2.1 wf_X13_859 (.inl rfl) ?_
      refine kz_iast (M := kt_M574) (c := 12) (o := 0) (k := 48) (a := (E.2.1 4120)) kX13_typeDeclaration_c18.1 ow_12_0_48 oa_12_0_48 ot_0 h (fun h => ?_)
      exact kz_weak [(0, .ref (w_adr E.2.1 12 0)), (1, .int x1), (2, .int x2), (4, .int x4)] ⟨rfl, ⟨rfl, ⟨rfl, ⟨rfl, trivial⟩⟩⟩⟩ rfl (zt_X13_typeDeclaration_p299 hL  h)
def zb_X13_typeDeclaration_p265 (E : zE) (L : Nat) (Q : kx_Rs → wS → Prop) (x1 : Int32) (x2 : Int32) (x4 : Int32) (w : wS) : Prop := (kx_inb x1 (w_n w 12 0 27) = true ∧ zw E (L - 22) kt_M560 [.ref (w_adr E.2.1 12 0), .int 7, .int (w_a w 12 0 27 (x1).toNatClampNeg)] w (wk0 (fun w1 => wle w w1 → zb_X13_typeDeclaration_p277 E L Q x1 x2 x4 w1) (fun e w => Q (.inr e) w)))
theorem zt_X13_typeDeclaration_p265 {E : zE} {L : Nat} {Q : kx_Rs → wS → Prop} {x1 : Int32} {x2 : Int32} {x4 : Int32} {w : wS} (hL : 26 ≤ L) (h : zb_X13_typeDeclaration_p265 E L Q x1 x2 x4 w) : kzE E L kt_M574 265 [(0, .ref (w_adr E.2.1 12 0)), (1, .int x1), (2, .int x2), (4, .int x4)] [] w Q := by
  unfold zb_X13_typeDeclaration_p265 at h
  refine kz_aload_n (M := kt_M574) kX13_typeDeclaration_c15.2.2.2.2.2.2.2.1 rfl ?_
  refine kz_bi (M := kt_M574) 7 kX13_typeDeclaration_c16.1 rfl ?_
  refine kz_aload_n (M := kt_M574) kX13_typeDeclaration_c16.2.1 rfl ?_
  refine kz_gfc (M := kt_M574) (x := 4099) (c := 12) (o := 0) kX13_typeDeclaration_c16.2.2.1 wf_X13_190 (.inl rfl) ?_
  refine kz_iload_n (M := kt_M574) kX13_typeDeclaration_c16.2.2.2.1 rfl ?_
  refine kz_iald (M := kt_M574) (c := 12) (o := 0) (k := 27) (a := (E.2.1 4099)) kX13_typeDeclaration_c16.2.2.2.2.1 ow_12_0_27 oa_12_0_27 ot_0 h (fun h => ?_)
  refine kz_cv0 (M := kt_M574) (c := 12) (o := 0) (As := [.int 7, .int (w_a w 12 0 27 (x1).toNatClampNeg)]) (rest := []) kX13_typeDeclaration_c16.2.2.2.2.2.1 wl_X13_734 wMv_560 rfl (.inl rfl) rfl (Nat.le_trans (Nat.le_of_ble_eq_true rfl) hL) (Nat.le_of_ble_eq_true rfl) (Nat.le_of_ble_eq_true rfl) h (fun w1 hle h => ?_) (fun _ _ _ h => kzx_no rfl h)
  have h := h hle
  exact kz_weak [(0, .ref (w_adr E.2.1 12 0)), (1, .int x1), (2, .int x2), (4, .int x4)] ⟨rfl, ⟨rfl, ⟨rfl, ⟨rfl, trivial⟩⟩⟩⟩ rfl (zt_X13_typeDeclaration_p277 hL  h)
def zb_X13_typeDeclaration_p260 (E : zE) (L : Nat) (Q : kx_Rs → wS → Prop) (x1 : Int32) (x2 : Int32) (x4 : Int32) (y0 : Int32) (w : wS) : Prop := (if ¬ y0 = x4 then zb_X13_typeDeclaration_p277 E L Q x1 x2 x4 w else zb_X13_typeDeclaration_p265 E L Q x1 x2 x4 w)
theorem zt_X13_typeDeclaration_p260 {E : zE} {L : Nat} {Q : kx_Rs → wS → Prop} {x1 : Int32} {x2 : Int32} {x4 : Int32} {y0 : Int32} {w : wS} (hL : 26 ≤ L) (h : zb_X13_typeDeclaration_p260 E L Q x1 x2 x4 y0 w) : kzE E L kt_M574 260 [(0, .ref (w_adr E.2.1 12 0)), (1, .int x1), (2, .int x2), (4, .int x4)] [.int y0] w Q := by
  unfold zb_X13_typeDeclaration_p260 at h
  refine kz_iload (M := kt_M574) kX13_typeDeclaration_c15.2.2.2.2.2.1 rfl ?_
  refine kz_icmp_ne (M := kt_M574) kX13_typeDeclaration_c15.2.2.2.2.2.2.1 (t := 277) rfl h (fun h => ?_) (fun h => ?_)
  · skip
    exact kz_weak [(0, .ref (w_adr E.2.1 12 0)), (1, .int x1), (2, .int x2), (4, .int x4)] ⟨rfl, ⟨rfl, ⟨rfl, ⟨rfl, trivial⟩⟩⟩⟩ rfl (zt_X13_typeDeclaration_p277 hL  h)
  · skip
    exact kz_weak [(0, .ref (w_adr E.2.1 12 0)), (1, .int x1), (2, .int x2), (4, .int x4)] ⟨rfl, ⟨rfl, ⟨rfl, ⟨rfl, trivial⟩⟩⟩⟩ rfl (zt_X13_typeDeclaration_p265 hL  h)
def zb_X13_typeDeclaration_p230 (E : zE) (L : Nat) (Q : kx_Rs → wS → Prop) (x1 : Int32) (x2 : Int32) (x3 : Int32) (y0 : Int32) (w : wS) : Prop := (if x3 = (-1) then zb_X13_typeDeclaration_p277 E L Q x1 x2 y0 w else (kx_inb x2 (w_n w 12 0 47) = true ∧ (if ¬ x3 = w_a w 12 0 47 (x2).toNatClampNeg then zb_X13_typeDeclaration_p265 E L Q x1 x2 y0 w else (if ¬ w_i w 12 0 73 = (-1) then zb_X13_typeDeclaration_p260 E L Q x1 x2 y0 0 w else zb_X13_typeDeclaration_p260 E L Q x1 x2 y0 1 w))))
theorem zt_X13_typeDeclaration_p230 {E : zE} {L : Nat} {Q : kx_Rs → wS → Prop} {x1 : Int32} {x2 : Int32} {x3 : Int32} {y0 : Int32} {w : wS} (hL : 26 ≤ L) (h : zb_X13_typeDeclaration_p230 E L Q x1 x2 x3 y0 w) : kzE E L kt_M574 230 [(0, .ref (w_adr E.2.1 12 0)), (1, .int x1), (2, .int x2), (3, .int x3)] [.int y0] w Q := by
  unfold zb_X13_typeDeclaration_p230 at h
  refine kz_sti (M := kt_M574) [(0, .ref (w_adr E.2.1 12 0)), (1, .int x1), (2, .int x2), (3, .int x3)] kX13_typeDeclaration_c13.2.2.2.2.1 (Nat.le_of_ble_eq_true rfl) ⟨⟨rfl, rfl, .inl rfl⟩, ⟨⟨rfl, rfl, .inl rfl⟩, ⟨⟨rfl, rfl, .inl rfl⟩, ⟨⟨rfl, rfl, .inr rfl⟩, trivial⟩⟩⟩⟩ rfl ?_
  refine kz_iload_n (M := kt_M574) kX13_typeDeclaration_c13.2.2.2.2.2.1 rfl ?_
  refine kz_ic (M := kt_M574) (-1) kX13_typeDeclaration_c13.2.2.2.2.2.2.1 rfl ?_
  refine kz_icmp_eq (M := kt_M574) kX13_typeDeclaration_c13.2.2.2.2.2.2.2.1 (t := 277) rfl h (fun h => ?_) (fun h => ?_)
  · skip
    exact kz_weak [(0, .ref (w_adr E.2.1 12 0)), (1, .int x1), (2, .int x2), (4, .int y0)] ⟨rfl, ⟨rfl, ⟨rfl, ⟨rfl, trivial⟩⟩⟩⟩ rfl (zt_X13_typeDeclaration_p277 hL  h)
  · skip
    refine kz_iload_n (M := kt_M574) kX13_typeDeclaration_c14.1 rfl ?_
    refine kz_aload_n (M := kt_M574) kX13_typeDeclaration_c14.2.1 rfl ?_
    refine kz_gfc (M := kt_M574) (x := 4119) (c := 12) (o := 0) kX13_typeDeclaration_c14.2.2.1 wf_X13_226 (.inl rfl) ?_
    refine kz_iload_n (M := kt_M574) kX13_typeDeclaration_c14.2.2.2.1 rfl ?_
    refine kz_iald (M := kt_M574) (c := 12) (o := 0) (k := 47) (a := (E.2.1 4119)) kX13_typeDeclaration_c14.2.2.2.2.1 ow_12_0_47 oa_12_0_47 ot_0 h (fun h => ?_)
    refine kz_icmp_ne (M := kt_M574) kX13_typeDeclaration_c14.2.2.2.2.2.1 (t := 265) rfl h (fun h => ?_) (fun h => ?_)
    · skip
      exact kz_weak [(0, .ref (w_adr E.2.1 12 0)), (1, .int x1), (2, .int x2), (4, .int y0)] ⟨rfl, ⟨rfl, ⟨rfl, ⟨rfl, trivial⟩⟩⟩⟩ rfl (zt_X13_typeDeclaration_p265 hL  h)
    · skip
      refine kz_aload_n (M := kt_M574) kX13_typeDeclaration_c14.2.2.2.2.2.2.1 rfl ?_
      refine kz_gfi (M := kt_M574) (c := 12) (o := 0) kX13_typeDeclaration_c14.2.2.2.2.2.2.2.1 wf_X13_859 (.inl rfl) ?_
      refine kz_ic (M := kt_M574) (-1) kX13_typeDeclaration_c15.1 rfl ?_
      refine kz_icmp_ne (M := kt_M574) kX13_typeDeclaration_c15.2.1 (t := 259) rfl h (fun h => ?_) (fun h => ?_)
      · skip
        refine kz_ic (M := kt_M574) 0 kX13_typeDeclaration_c15.2.2.2.2.1 rfl ?_
        exact kz_weak [(0, .ref (w_adr E.2.1 12 0)), (1, .int x1), (2, .int x2), (4, .int y0)] ⟨rfl, ⟨rfl, ⟨rfl, ⟨rfl, trivial⟩⟩⟩⟩ rfl (zt_X13_typeDeclaration_p260 hL  h)
      · skip
        refine kz_ic (M := kt_M574) 1 kX13_typeDeclaration_c15.2.2.1 rfl ?_
        refine kz_goto (M := kt_M574) kX13_typeDeclaration_c15.2.2.2.1 (t := 260) rfl ?_
        exact kz_weak [(0, .ref (w_adr E.2.1 12 0)), (1, .int x1), (2, .int x2), (4, .int y0)] ⟨rfl, ⟨rfl, ⟨rfl, ⟨rfl, trivial⟩⟩⟩⟩ rfl (zt_X13_typeDeclaration_p260 hL  h)
def zb_X13_typeDeclaration_p195 (E : zE) (L : Nat) (Q : kx_Rs → wS → Prop) (w : wS) : Prop := Q (.inl none) w
theorem zt_X13_typeDeclaration_p195 {E : zE} {L : Nat} {Q : kx_Rs → wS → Prop} {w : wS} (hL : 26 ≤ L) (h : zb_X13_typeDeclaration_p195 E L Q  w) : kzE E L kt_M574 195 [(0, .ref (w_adr E.2.1 12 0))] [] w Q := by
  unfold zb_X13_typeDeclaration_p195 at h
  exact kz_ret (M := kt_M574) kX13_typeDeclaration_c10.2.2.2.2.2.1 rfl h
def zb_X13_typeDeclaration_p150 (E : zE) (L : Nat) (Q : kx_Rs → wS → Prop) (x1 : Int32) (x2 : Int32) (x3 : Int32) (x4 : Int32) (y0 : Int32) (y1 : Int32) (w : wS) : Prop := (kx_inb x4 (w_n w 12 0 32) = true ∧ zL_X13_typeDeclaration_p89 E L Q x1 x2 x3 (w_a w 12 0 32 (x4).toNatClampNeg) (ws_i w 12 0 74 (y1 + y0)))
theorem zt_X13_typeDeclaration_p150 {E : zE} {L : Nat} {Q : kx_Rs → wS → Prop} {x1 : Int32} {x2 : Int32} {x3 : Int32} {x4 : Int32} {y0 : Int32} {y1 : Int32} {w : wS} (hL : 26 ≤ L) (h : zb_X13_typeDeclaration_p150 E L Q x1 x2 x3 x4 y0 y1 w) : kzE E L kt_M574 150 [(0, .ref (w_adr E.2.1 12 0)), (1, .int x1), (2, .int x2), (3, .int x3), (4, .int x4)] [.int y0, .int y1, .ref (w_adr E.2.1 12 0)] w Q := by
  unfold zb_X13_typeDeclaration_p150 at h
  refine kz_iadd (M := kt_M574) kX13_typeDeclaration_c7.2.2.2.2.2.2.2.1 ?_
  refine kz_pfi (M := kt_M574) (c := 12) (o := 0) kX13_typeDeclaration_c8.1 wq_X13_931 (.inl rfl) ?_
  refine kz_aload_n (M := kt_M574) kX13_typeDeclaration_c8.2.1 rfl ?_
  refine kz_gfc (M := kt_M574) (x := 4104) (c := 12) (o := 0) kX13_typeDeclaration_c8.2.2.1 wf_X13_205 (.inl rfl) ?_
  refine kz_iload (M := kt_M574) kX13_typeDeclaration_c8.2.2.2.1 rfl ?_
  refine kz_ialdR (M := kt_M574) (n := w_n w 12 0 32) (c := 12) (o := 0) (k := 32) (a := (E.2.1 4104)) (w_a w 12 0 32 (x4).toNatClampNeg) kX13_typeDeclaration_c8.2.2.2.2.1 ow_12_0_32 oa_12_0_32 ot_0 rd_n_i rd_a_i h (fun h => ?_)
  refine kz_sti (M := kt_M574) [(0, .ref (w_adr E.2.1 12 0)), (1, .int x1), (2, .int x2), (3, .int x3)] kX13_typeDeclaration_c8.2.2.2.2.2.1 (Nat.le_of_ble_eq_true rfl) ⟨⟨rfl, rfl, .inl rfl⟩, ⟨⟨rfl, rfl, .inl rfl⟩, ⟨⟨rfl, rfl, .inl rfl⟩, ⟨⟨rfl, rfl, .inr rfl⟩, trivial⟩⟩⟩⟩ rfl ?_
  refine kz_goto (M := kt_M574) kX13_typeDeclaration_c8.2.2.2.2.2.2.1 (t := 89) rfl ?_
  exact kz_weak [(0, .ref (w_adr E.2.1 12 0)), (1, .int x1), (2, .int x2), (3, .int x3), (4, .int (w_a w 12 0 32 (x4).toNatClampNeg))] ⟨rfl, ⟨rfl, ⟨rfl, ⟨rfl, ⟨rfl, trivial⟩⟩⟩⟩⟩ rfl h
def zb_X13_typeDeclaration_p145 (E : zE) (L : Nat) (Q : kx_Rs → wS → Prop) (x1 : Int32) (x2 : Int32) (x3 : Int32) (x4 : Int32) (y0 : Int32) (w : wS) : Prop := zb_X13_typeDeclaration_p150 E L Q x1 x2 x3 x4 0 y0 w
theorem zt_X13_typeDeclaration_p145 {E : zE} {L : Nat} {Q : kx_Rs → wS → Prop} {x1 : Int32} {x2 : Int32} {x3 : Int32} {x4 : Int32} {y0 : Int32} {w : wS} (hL : 26 ≤ L) (h : zb_X13_typeDeclaration_p145 E L Q x1 x2 x3 x4 y0 w) : kzE E L kt_M574 145 [(0, .ref (w_adr E.2.1 12 0)), (1, .int x1), (2, .int x2), (3, .int x3), (4, .int x4)] [.int y0, .ref (w_adr E.2.1 12 0)] w Q := by
  unfold zb_X13_typeDeclaration_p145 at h
  refine kz_ic (M := kt_M574) 0 kX13_typeDeclaration_c7.2.2.2.2.1 rfl ?_
  refine kz_goto (M := kt_M574) kX13_typeDeclaration_c7.2.2.2.2.2.1 (t := 150) rfl ?_
  exact kz_weak [(0, .ref (w_adr E.2.1 12 0)), (1, .int x1), (2, .int x2), (3, .int x3), (4, .int x4)] ⟨rfl, ⟨rfl, ⟨rfl, ⟨rfl, ⟨rfl, trivial⟩⟩⟩⟩⟩ rfl (zt_X13_typeDeclaration_p150 hL  h)
def zb_X13_typeDeclaration_p125 (E : zE) (L : Nat) (Q : kx_Rs → wS → Prop) (x1 : Int32) (x2 : Int32) (x3 : Int32) (x4 : Int32) (w : wS) : Prop := (kx_inb x1 (w_n w 12 0 26) = true ∧ (if w_a w 12 0 26 (x1).toNatClampNeg = 32 then zb_X13_typeDeclaration_p145 E L Q x1 x2 x3 x4 (w_i w 12 0 74) w else (if 0 ≤ x2 then zb_X13_typeDeclaration_p150 E L Q x1 x2 x3 x4 x2 (w_i w 12 0 74) w else zb_X13_typeDeclaration_p145 E L Q x1 x2 x3 x4 (w_i w 12 0 74) w)))
theorem zt_X13_typeDeclaration_p125 {E : zE} {L : Nat} {Q : kx_Rs → wS → Prop} {x1 : Int32} {x2 : Int32} {x3 : Int32} {x4 : Int32} {w : wS} (hL : 26 ≤ L) (h : zb_X13_typeDeclaration_p125 E L Q x1 x2 x3 x4 w) : kzE E L kt_M574 125 [(0, .ref (w_adr E.2.1 12 0)), (1, .int x1), (2, .int x2), (3, .int x3), (4, .int x4)] [] w Q := by
  unfold zb_X13_typeDeclaration_p125 at h
  refine kz_aload_n (M := kt_M574) kX13_typeDeclaration_c6.2.1 rfl ?_
  refine kz_dup (M := kt_M574) kX13_typeDeclaration_c6.2.2.1 rfl ?_
  refine kz_gfi (M := kt_M574) (c := 12) (o := 0) kX13_typeDeclaration_c6.2.2.2.1 wf_X13_931 (.inl rfl) ?_
  refine kz_aload_n (M := kt_M574) kX13_typeDeclaration_c6.2.2.2.2.1 rfl ?_
  refine kz_gfc (M := kt_M574) (x := 4098) (c := 12) (o := 0) kX13_typeDeclaration_c6.2.2.2.2.2.1 wf_X13_187 (.inl rfl) ?_
  refine kz_iload_n (M := kt_M574) kX13_typeDeclaration_c6.2.2.2.2.2.2.1 rfl ?_
  refine kz_iald (M := kt_M574) (c := 12) (o := 0) (k := 26) (a := (E.2.1 4098)) kX13_typeDeclaration_c6.2.2.2.2.2.2.2.1 ow_12_0_26 oa_12_0_26 ot_0 h (fun h => ?_)
  refine kz_bi (M := kt_M574) 32 kX13_typeDeclaration_c7.1 rfl ?_
  refine kz_icmp_eq (M := kt_M574) kX13_typeDeclaration_c7.2.1 (t := 145) rfl h (fun h => ?_) (fun h => ?_)
  · skip
    exact kz_weak [(0, .ref (w_adr E.2.1 12 0)), (1, .int x1), (2, .int x2), (3, .int x3), (4, .int x4)] ⟨rfl, ⟨rfl, ⟨rfl, ⟨rfl, ⟨rfl, trivial⟩⟩⟩⟩⟩ rfl (zt_X13_typeDeclaration_p145 hL  h)
  · skip
    refine kz_iload_n (M := kt_M574) kX13_typeDeclaration_c7.2.2.1 rfl ?_
    refine kz_if_ge (M := kt_M574) kX13_typeDeclaration_c7.2.2.2.1 (t := 149) rfl h (fun h => ?_) (fun h => ?_)
    · skip
      refine kz_iload_n (M := kt_M574) kX13_typeDeclaration_c7.2.2.2.2.2.2.1 rfl ?_
      exact kz_weak [(0, .ref (w_adr E.2.1 12 0)), (1, .int x1), (2, .int x2), (3, .int x3), (4, .int x4)] ⟨rfl, ⟨rfl, ⟨rfl, ⟨rfl, ⟨rfl, trivial⟩⟩⟩⟩⟩ rfl (zt_X13_typeDeclaration_p150 hL  h)
    · skip
      exact kz_weak [(0, .ref (w_adr E.2.1 12 0)), (1, .int x1), (2, .int x2), (3, .int x3), (4, .int x4)] ⟨rfl, ⟨rfl, ⟨rfl, ⟨rfl, ⟨rfl, trivial⟩⟩⟩⟩⟩ rfl (zt_X13_typeDeclaration_p145 hL  h)
def zb_X13_typeDeclaration_p124 (E : zE) (L : Nat) (Q : kx_Rs → wS → Prop) (x1 : Int32) (x2 : Int32) (x3 : Int32) (x4 : Int32) (y0 : Int32) (y1 : Int32) (w : wS) : Prop := (kx_inb y1 (w_n w 12 0 48) = true ∧ zb_X13_typeDeclaration_p125 E L Q x1 x2 x3 x4 (ws_a w 12 0 48 (y1).toNatClampNeg y0))
theorem zt_X13_typeDeclaration_p124 {E : zE} {L : Nat} {Q : kx_Rs → wS → Prop} {x1 : Int32} {x2 : Int32} {x3 : Int32} {x4 : Int32} {y0 : Int32} {y1 : Int32} {w : wS} (hL : 26 ≤ L) (h : zb_X13_typeDeclaration_p124 E L Q x1 x2 x3 x4 y0 y1 w) : kzE E L kt_M574 124 [(0, .ref (w_adr E.2.1 12 0)), (1, .int x1), (2, .int x2), (3, .int x3), (4, .int x4)] [.int y0, .int y1, .ref (E.2.1 4120)] w Q := by
  unfold zb_X13_typeDeclaration_p124 at h
  refine kz_iast (M := kt_M574) (c := 12) (o := 0) (k := 48) (a := (E.2.1 4120)) kX13_typeDeclaration_c6.1 ow_12_0_48 oa_12_0_48 ot_0 h (fun h => ?_)
  exact kz_weak [(0, .ref (w_adr E.2.1 12 0)), (1, .int x1), (2, .int x2), (3, .int x3), (4, .int x4)] ⟨rfl, ⟨rfl, ⟨rfl, ⟨rfl, ⟨rfl, trivial⟩⟩⟩⟩⟩ rfl (zt_X13_typeDeclaration_p125 hL  h)
def zb_X13_typeDeclaration_p89 (E : zE) (L : Nat) (Q : kx_Rs → wS → Prop) (x1 : Int32) (x2 : Int32) (x3 : Int32) (x4 : Int32) (w : wS) : Prop := (if x4 < 0 then (if 20000 < x3 then zb_X13_typeDeclaration_p195 E L Q w else (if w_i w 12 0 74 ≤ 20000 then zb_X13_typeDeclaration_p195 E L Q w else (kx_inb x1 (w_n w 12 0 27) = true ∧ zw E (L - 22) kt_M560 [.ref (w_adr E.2.1 12 0), .int 9, .int (w_a w 12 0 27 (x1).toNatClampNeg)] w (wk0 (fun w1 => wle w w1 → zb_X13_typeDeclaration_p195 E L Q w1) (fun e w => Q (.inr e) w))))) else (kx_inb x1 (w_n w 12 0 28) = true ∧ (if w_a w 12 0 28 (x1).toNatClampNeg < 0 then zb_X13_typeDeclaration_p125 E L Q x1 x2 x3 x4 w else (kx_inb x4 (w_n w 12 0 31) = true ∧ (if 0 ≤ x2 then zb_X13_typeDeclaration_p124 E L Q x1 x2 x3 x4 x2 (w_a w 12 0 31 (x4).toNatClampNeg) w else zb_X13_typeDeclaration_p124 E L Q x1 x2 x3 x4 (-2) (w_a w 12 0 31 (x4).toNatClampNeg) w)))))
theorem zt_X13_typeDeclaration_p89 {E : zE} {L : Nat} {Q : kx_Rs → wS → Prop} {x1 : Int32} {x2 : Int32} {x3 : Int32} {x4 : Int32} {w : wS} (hL : 26 ≤ L) (h : zb_X13_typeDeclaration_p89 E L Q x1 x2 x3 x4 w) : kzE E L kt_M574 89 [(0, .ref (w_adr E.2.1 12 0)), (1, .int x1), (2, .int x2), (3, .int x3), (4, .int x4)] [] w Q := by
  unfold zb_X13_typeDeclaration_p89 at h
  refine kz_iload (M := kt_M574) kX13_typeDeclaration_c3.2.2.2.2.2.2.1 rfl ?_
  refine kz_if_lt (M := kt_M574) kX13_typeDeclaration_c3.2.2.2.2.2.2.2.1 (t := 166) rfl h (fun h => ?_) (fun h => ?_)
  · skip
    refine kz_iload_n (M := kt_M574) kX13_typeDeclaration_c8.2.2.2.2.2.2.2.1 rfl ?_
    refine kz_si (M := kt_M574) 20000 kX13_typeDeclaration_c9.1 rfl ?_
    refine kz_icmp_gt (M := kt_M574) kX13_typeDeclaration_c9.2.1 (t := 195) rfl h (fun h => ?_) (fun h => ?_)
    · skip
      exact kz_weak [(0, .ref (w_adr E.2.1 12 0))] ⟨rfl, trivial⟩ rfl (zt_X13_typeDeclaration_p195 hL  h)
    · skip
      refine kz_aload_n (M := kt_M574) kX13_typeDeclaration_c9.2.2.1 rfl ?_
      refine kz_gfi (M := kt_M574) (c := 12) (o := 0) kX13_typeDeclaration_c9.2.2.2.1 wf_X13_931 (.inl rfl) ?_
      refine kz_si (M := kt_M574) 20000 kX13_typeDeclaration_c9.2.2.2.2.1 rfl ?_
      refine kz_icmp_le (M := kt_M574) kX13_typeDeclaration_c9.2.2.2.2.2.1 (t := 195) rfl h (fun h => ?_) (fun h => ?_)
      · skip
        exact kz_weak [(0, .ref (w_adr E.2.1 12 0))] ⟨rfl, trivial⟩ rfl (zt_X13_typeDeclaration_p195 hL  h)
      · skip
        refine kz_aload_n (M := kt_M574) kX13_typeDeclaration_c9.2.2.2.2.2.2.1 rfl ?_
        refine kz_bi (M := kt_M574) 9 kX13_typeDeclaration_c9.2.2.2.2.2.2.2.1 rfl ?_
        refine kz_aload_n (M := kt_M574) kX13_typeDeclaration_c10.1 rfl ?_
        refine kz_gfc (M := kt_M574) (x := 4099) (c := 12) (o := 0) kX13_typeDeclaration_c10.2.1 wf_X13_190 (.inl rfl) ?_
        refine kz_iload_n (M := kt_M574) kX13_typeDeclaration_c10.2.2.1 rfl ?_
        refine kz_iald (M := kt_M574) (c := 12) (o := 0) (k := 27) (a := (E.2.1 4099)) kX13_typeDeclaration_c10.2.2.2.1 ow_12_0_27 oa_12_0_27 ot_0 h (fun h => ?_)
        refine kz_cv0 (M := kt_M574) (c := 12) (o := 0) (As := [.int 9, .int (w_a w 12 0 27 (x1).toNatClampNeg)]) (rest := []) kX13_typeDeclaration_c10.2.2.2.2.1 wl_X13_734 wMv_560 rfl (.inl rfl) rfl (Nat.le_trans (Nat.le_of_ble_eq_true rfl) hL) (Nat.le_of_ble_eq_true rfl) (Nat.le_of_ble_eq_true rfl) h (fun w1 hle h => ?_) (fun _ _ _ h => kzx_no rfl h)
        have h := h hle
        exact kz_weak [(0, .ref (w_adr E.2.1 12 0))] ⟨rfl, trivial⟩ rfl (zt_X13_typeDeclaration_p195 hL  h)
  · skip
    refine kz_aload_n (M := kt_M574) kX13_typeDeclaration_c4.1 rfl ?_
    refine kz_gfc (M := kt_M574) (x := 4100) (c := 12) (o := 0) kX13_typeDeclaration_c4.2.1 wf_X13_193 (.inl rfl) ?_
    refine kz_iload_n (M := kt_M574) kX13_typeDeclaration_c4.2.2.1 rfl ?_
    refine kz_iald (M := kt_M574) (c := 12) (o := 0) (k := 28) (a := (E.2.1 4100)) kX13_typeDeclaration_c4.2.2.2.1 ow_12_0_28 oa_12_0_28 ot_0 h (fun h => ?_)
    refine kz_if_lt (M := kt_M574) kX13_typeDeclaration_c4.2.2.2.2.1 (t := 125) rfl h (fun h => ?_) (fun h => ?_)
    · skip
      exact kz_weak [(0, .ref (w_adr E.2.1 12 0)), (1, .int x1), (2, .int x2), (3, .int x3), (4, .int x4)] ⟨rfl, ⟨rfl, ⟨rfl, ⟨rfl, ⟨rfl, trivial⟩⟩⟩⟩⟩ rfl (zt_X13_typeDeclaration_p125 hL  h)
    · skip
      refine kz_aload_n (M := kt_M574) kX13_typeDeclaration_c4.2.2.2.2.2.1 rfl ?_
      refine kz_gfc (M := kt_M574) (x := 4120) (c := 12) (o := 0) kX13_typeDeclaration_c4.2.2.2.2.2.2.1 wf_X13_229 (.inl rfl) ?_
      refine kz_aload_n (M := kt_M574) kX13_typeDeclaration_c4.2.2.2.2.2.2.2.1 rfl ?_
      refine kz_gfc (M := kt_M574) (x := 4103) (c := 12) (o := 0) kX13_typeDeclaration_c5.1 wf_X13_202 (.inl rfl) ?_
      refine kz_iload (M := kt_M574) kX13_typeDeclaration_c5.2.1 rfl ?_
      refine kz_iald (M := kt_M574) (c := 12) (o := 0) (k := 31) (a := (E.2.1 4103)) kX13_typeDeclaration_c5.2.2.1 ow_12_0_31 oa_12_0_31 ot_0 h (fun h => ?_)
      refine kz_iload_n (M := kt_M574) kX13_typeDeclaration_c5.2.2.2.1 rfl ?_
      refine kz_if_ge (M := kt_M574) kX13_typeDeclaration_c5.2.2.2.2.1 (t := 123) rfl h (fun h => ?_) (fun h => ?_)
      · skip
        refine kz_iload_n (M := kt_M574) kX13_typeDeclaration_c5.2.2.2.2.2.2.2.1 rfl ?_
        exact kz_weak [(0, .ref (w_adr E.2.1 12 0)), (1, .int x1), (2, .int x2), (3, .int x3), (4, .int x4)] ⟨rfl, ⟨rfl, ⟨rfl, ⟨rfl, ⟨rfl, trivial⟩⟩⟩⟩⟩ rfl (zt_X13_typeDeclaration_p124 hL  h)
      · skip
        refine kz_bi (M := kt_M574) (-2) kX13_typeDeclaration_c5.2.2.2.2.2.1 rfl ?_
        refine kz_goto (M := kt_M574) kX13_typeDeclaration_c5.2.2.2.2.2.2.1 (t := 124) rfl ?_
        exact kz_weak [(0, .ref (w_adr E.2.1 12 0)), (1, .int x1), (2, .int x2), (3, .int x3), (4, .int x4)] ⟨rfl, ⟨rfl, ⟨rfl, ⟨rfl, ⟨rfl, trivial⟩⟩⟩⟩⟩ rfl (zt_X13_typeDeclaration_p124 hL  h)
def zb_X13_typeDeclaration_p75 (E : zE) (L : Nat) (Q : kx_Rs → wS → Prop) (x1 : Int32) (y0 : Int32) (w : wS) : Prop := (kx_inb x1 (w_n w 12 0 29) = true ∧ zL_X13_typeDeclaration_p89 E L Q x1 y0 (w_i w 12 0 74) (w_a w 12 0 29 (x1).toNatClampNeg) w)
theorem zt_X13_typeDeclaration_p75 {E : zE} {L : Nat} {Q : kx_Rs → wS → Prop} {x1 : Int32} {y0 : Int32} {w : wS} (hL : 26 ≤ L) (h : zb_X13_typeDeclaration_p75 E L Q x1 y0 w) : kzE E L kt_M574 75 [(0, .ref (w_adr E.2.1 12 0)), (1, .int x1)] [.int y0] w Q := by
  unfold zb_X13_typeDeclaration_p75 at h
  refine kz_sti_n (M := kt_M574) [(0, .ref (w_adr E.2.1 12 0)), (1, .int x1)] kX13_typeDeclaration_c2.2.2.2.2.2.1 (Nat.le_of_ble_eq_true rfl) ⟨⟨rfl, rfl, .inl rfl⟩, ⟨⟨rfl, rfl, .inr rfl⟩, trivial⟩⟩ rfl ?_
  refine kz_aload_n (M := kt_M574) kX13_typeDeclaration_c2.2.2.2.2.2.2.1 rfl ?_
  refine kz_gfi (M := kt_M574) (c := 12) (o := 0) kX13_typeDeclaration_c2.2.2.2.2.2.2.2.1 wf_X13_931 (.inl rfl) ?_
  refine kz_sti_n (M := kt_M574) [(0, .ref (w_adr E.2.1 12 0)), (1, .int x1), (2, .int y0)] kX13_typeDeclaration_c3.1 (Nat.le_of_ble_eq_true rfl) ⟨⟨rfl, rfl, .inl rfl⟩, ⟨⟨rfl, rfl, .inl rfl⟩, ⟨⟨rfl, rfl, .inr rfl⟩, trivial⟩⟩⟩ rfl ?_
  refine kz_aload_n (M := kt_M574) kX13_typeDeclaration_c3.2.1 rfl ?_
  refine kz_gfc (M := kt_M574) (x := 4101) (c := 12) (o := 0) kX13_typeDeclaration_c3.2.2.1 wf_X13_196 (.inl rfl) ?_
  refine kz_iload_n (M := kt_M574) kX13_typeDeclaration_c3.2.2.2.1 rfl ?_
  refine kz_iald (M := kt_M574) (c := 12) (o := 0) (k := 29) (a := (E.2.1 4101)) kX13_typeDeclaration_c3.2.2.2.2.1 ow_12_0_29 oa_12_0_29 ot_0 h (fun h => ?_)
  refine kz_sti (M := kt_M574) [(0, .ref (w_adr E.2.1 12 0)), (1, .int x1), (2, .int y0), (3, .int (w_i w 12 0 74))] kX13_typeDeclaration_c3.2.2.2.2.2.1 (Nat.le_of_ble_eq_true rfl) ⟨⟨rfl, rfl, .inl rfl⟩, ⟨⟨rfl, rfl, .inl rfl⟩, ⟨⟨rfl, rfl, .inl rfl⟩, ⟨⟨rfl, rfl, .inr rfl⟩, trivial⟩⟩⟩⟩ rfl ?_
  exact kz_weak [(0, .ref (w_adr E.2.1 12 0)), (1, .int x1), (2, .int y0), (3, .int (w_i w 12 0 74)), (4, .int (w_a w 12 0 29 (x1).toNatClampNeg))] ⟨rfl, ⟨rfl, ⟨rfl, ⟨rfl, ⟨rfl, trivial⟩⟩⟩⟩⟩ rfl h
def zb_X13_typeDeclaration_p0 (E : zE) (L : Nat) (Q : kx_Rs → wS → Prop) (x1 : Int32) (w : wS) : Prop := zw E (L - 24) kt_M559 [.ref (w_adr E.2.1 12 0), .int x1] w (wk0 (fun w1 => wle w w1 → (kx_inb x1 (w_n w1 12 0 26) = true ∧ (if w_a w1 12 0 26 (x1).toNatClampNeg = 30 then (kx_inb x1 (w_n w1 12 0 28) = true ∧ (if w_a w1 12 0 28 (x1).toNatClampNeg < 0 then zb_X13_typeDeclaration_p75 E L Q x1 1 w1 else (kx_inb x1 (w_n w1 12 0 28) = true ∧ zw E (L - 22) kt_M539 [.ref (w_adr E.2.1 12 0), .int (w_a w1 12 0 28 (x1).toNatClampNeg)] w1 (wk1 (fun v4 w3 => wle w1 w3 → zb_X13_typeDeclaration_p75 E L Q x1 v4 w3) (fun e w => Q (.inr e) w))))) else (if w_a w1 12 0 26 (x1).toNatClampNeg = 31 then (kx_inb x1 (w_n w1 12 0 28) = true ∧ (if w_a w1 12 0 28 (x1).toNatClampNeg < 0 then zb_X13_typeDeclaration_p75 E L Q x1 1 w1 else (kx_inb x1 (w_n w1 12 0 28) = true ∧ zw E (L - 22) kt_M539 [.ref (w_adr E.2.1 12 0), .int (w_a w1 12 0 28 (x1).toNatClampNeg)] w1 (wk1 (fun v6 w5 => wle w1 w5 → zb_X13_typeDeclaration_p75 E L Q x1 v6 w5) (fun e w => Q (.inr e) w))))) else (if w_a w1 12 0 26 (x1).toNatClampNeg = 32 then (kx_inb x1 (w_n w1 12 0 28) = true ∧ (if w_a w1 12 0 28 (x1).toNatClampNeg < 0 then zb_X13_typeDeclaration_p75 E L Q x1 1 w1 else (kx_inb x1 (w_n w1 12 0 28) = true ∧ zw E (L - 22) kt_M539 [.ref (w_adr E.2.1 12 0), .int (w_a w1 12 0 28 (x1).toNatClampNeg)] w1 (wk1 (fun v8 w7 => wle w1 w7 → zb_X13_typeDeclaration_p75 E L Q x1 v8 w7) (fun e w => Q (.inr e) w))))) else (if w_a w1 12 0 26 (x1).toNatClampNeg = 33 then (kx_inb x1 (w_n w1 12 0 31) = true ∧ (kx_inb x1 (w_n w1 12 0 28) = true ∧ zw E (L - 23) kt_M576 [.ref (w_adr E.2.1 12 0), .int (w_a w1 12 0 28 (x1).toNatClampNeg)] w1 (wk1 (fun v10 w9 => wle w1 w9 → (kx_inb x1 (w_n w9 12 0 34) = true ∧ (if ((w_a w9 12 0 34 (x1).toNatClampNeg) &&& 1) = 0 then zb_X13_typeDeclaration_p230 E L Q x1 (w_a w1 12 0 31 (x1).toNatClampNeg) v10 0 w9 else zb_X13_typeDeclaration_p230 E L Q x1 (w_a w1 12 0 31 (x1).toNatClampNeg) v10 1 w9))) (fun e w => Q (.inr e) w)))) else (if w_a w1 12 0 26 (x1).toNatClampNeg = 34 then (kx_inb x1 (w_n w1 12 0 31) = true ∧ (kx_inb x1 (w_n w1 12 0 28) = true ∧ zw E (L - 22) kt_M577 [.ref (w_adr E.2.1 12 0), .int (w_a w1 12 0 28 (x1).toNatClampNeg)] w1 (wk1 (fun v12 w11 => wle w1 w11 → (kx_inb x1 (w_n w11 12 0 34) = true ∧ (if ((w_a w11 12 0 34 (x1).toNatClampNeg) &&& 1) = 0 then zb_X13_typeDeclaration_p399 E L Q x1 (w_a w1 12 0 31 (x1).toNatClampNeg) v12 0 w11 else zb_X13_typeDeclaration_p399 E L Q x1 (w_a w1 12 0 31 (x1).toNatClampNeg) v12 1 w11))) (fun e w => Q (.inr e) w)))) else (if w_a w1 12 0 26 (x1).toNatClampNeg = 35 then (kx_inb x1 (w_n w1 12 0 29) = true ∧ (kx_inb x1 (w_n w1 12 0 27) = true ∧ zw E (L - 26) kt_M584 [.ref (w_adr E.2.1 12 0), .int (w_a w1 12 0 29 (x1).toNatClampNeg), .int 0, .int (w_a w1 12 0 27 (x1).toNatClampNeg)] w1 (wk0 (fun w13 => wle w1 w13 → Q (.inl none) w13) (fun e w => Q (.inr e) w)))) else (if w_a w1 12 0 26 (x1).toNatClampNeg = 36 then (kx_inb x1 (w_n w1 12 0 29) = true ∧ zL_X13_typeDeclaration_p504 E L Q (w_a w1 12 0 29 (x1).toNatClampNeg) w1) else (kx_inb x1 (w_n w1 12 0 26) = true ∧ (if ¬ w_a w1 12 0 26 (x1).toNatClampNeg = 38 then zb_X13_typeDeclaration_p562 E L Q x1 (w_g w1 12 0 79) w1 else (kx_inb x1 (w_n w1 12 0 42) = true ∧ zw E (L - 22) kt_M575 [.ref (w_adr E.2.1 12 0), .int (w_a w1 12 0 42 (x1).toNatClampNeg)] w1 (wk0 (fun w15 => wle w1 w15 → zb_X13_typeDeclaration_p562 E L Q x1 (w_g w1 12 0 79) w15) (fun e w => Q (.inr e) w)))))))))))))) (fun e w => Q (.inr e) w))
theorem zt_X13_typeDeclaration_p0 {E : zE} {L : Nat} {Q : kx_Rs → wS → Prop} {x1 : Int32} {w : wS} (hL : 26 ≤ L) (h : zb_X13_typeDeclaration_p0 E L Q x1 w) : kzE E L kt_M574 0 [(0, .ref (w_adr E.2.1 12 0)), (1, .int x1)] [] w Q := by
  unfold zb_X13_typeDeclaration_p0 at h
  refine kz_aload_n (M := kt_M574) kX13_typeDeclaration_c0.1 rfl ?_
  refine kz_iload_n (M := kt_M574) kX13_typeDeclaration_c0.2.1 rfl ?_
  refine kz_cv0 (M := kt_M574) (c := 12) (o := 0) (As := [.int x1]) (rest := []) kX13_typeDeclaration_c0.2.2.1 wl_X13_928 wMv_559 rfl (.inl rfl) rfl (Nat.le_trans (Nat.le_of_ble_eq_true rfl) hL) (Nat.le_of_ble_eq_true rfl) (Nat.le_of_ble_eq_true rfl) h (fun w1 hle h => ?_) (fun _ _ _ h => kzx_no rfl h)
  have h := h hle
  refine kz_aload_n (M := kt_M574) kX13_typeDeclaration_c0.2.2.2.1 rfl ?_
  refine kz_gfc (M := kt_M574) (x := 4098) (c := 12) (o := 0) kX13_typeDeclaration_c0.2.2.2.2.1 wf_X13_187 (.inl rfl) ?_
  refine kz_iload_n (M := kt_M574) kX13_typeDeclaration_c0.2.2.2.2.2.1 rfl ?_
  refine kz_iald (M := kt_M574) (c := 12) (o := 0) (k := 26) (a := (E.2.1 4098)) kX13_typeDeclaration_c0.2.2.2.2.2.2.1 ow_12_0_26 oa_12_0_26 ot_0 h (fun h => ?_)
  refine kz_tsw (M := kt_M574) [(30, 52), (31, 52), (32, 52), (33, 196), (34, 365), (35, 479), (36, 497)] [_, _, _, _, _, _, _] 536 dX13_typeDeclaration_p11 (by decide +kernel) h ⟨fun h => ?_, fun h => ?_, fun h => ?_, fun h => ?_, fun h => ?_, fun h => ?_, fun h => ?_, trivial⟩ (fun h => ?_)
  · skip
    refine kz_aload_n (M := kt_M574) kX13_typeDeclaration_c1.1 rfl ?_
    refine kz_gfc (M := kt_M574) (x := 4100) (c := 12) (o := 0) kX13_typeDeclaration_c1.2.1 wf_X13_193 (.inl rfl) ?_
    refine kz_iload_n (M := kt_M574) kX13_typeDeclaration_c1.2.2.1 rfl ?_
    refine kz_iald (M := kt_M574) (c := 12) (o := 0) (k := 28) (a := (E.2.1 4100)) kX13_typeDeclaration_c1.2.2.2.1 ow_12_0_28 oa_12_0_28 ot_0 h (fun h => ?_)
    refine kz_if_lt (M := kt_M574) kX13_typeDeclaration_c1.2.2.2.2.1 (t := 74) rfl h (fun h => ?_) (fun h => ?_)
    · skip
      refine kz_ic (M := kt_M574) 1 kX13_typeDeclaration_c2.2.2.2.2.1 rfl ?_
      exact kz_weak [(0, .ref (w_adr E.2.1 12 0)), (1, .int x1)] ⟨rfl, ⟨rfl, trivial⟩⟩ rfl (zt_X13_typeDeclaration_p75 hL  h)
    · skip
      refine kz_aload_n (M := kt_M574) kX13_typeDeclaration_c1.2.2.2.2.2.1 rfl ?_
      refine kz_aload_n (M := kt_M574) kX13_typeDeclaration_c1.2.2.2.2.2.2.1 rfl ?_
      refine kz_gfc (M := kt_M574) (x := 4100) (c := 12) (o := 0) kX13_typeDeclaration_c1.2.2.2.2.2.2.2.1 wf_X13_193 (.inl rfl) ?_
      refine kz_iload_n (M := kt_M574) kX13_typeDeclaration_c2.1 rfl ?_
      refine kz_iald (M := kt_M574) (c := 12) (o := 0) (k := 28) (a := (E.2.1 4100)) kX13_typeDeclaration_c2.2.1 ow_12_0_28 oa_12_0_28 ot_0 h (fun h => ?_)
      refine kz_cv1 (M := kt_M574) (c := 12) (o := 0) (As := [.int (w_a w1 12 0 28 (x1).toNatClampNeg)]) (rest := []) kX13_typeDeclaration_c2.2.2.1 wl_X13_922 wMv_539 rfl (.inl rfl) rfl (Nat.le_trans (Nat.le_of_ble_eq_true rfl) hL) (Nat.le_of_ble_eq_true rfl) (Nat.le_of_ble_eq_true rfl) h (fun v4 w3 hle h => ?_) (fun _ _ _ h => kzx_no rfl h)
      have h := h hle
      refine kz_goto (M := kt_M574) kX13_typeDeclaration_c2.2.2.2.1 (t := 75) rfl ?_
      exact kz_weak [(0, .ref (w_adr E.2.1 12 0)), (1, .int x1)] ⟨rfl, ⟨rfl, trivial⟩⟩ rfl (zt_X13_typeDeclaration_p75 hL  h)
  · skip
    refine kz_aload_n (M := kt_M574) kX13_typeDeclaration_c1.1 rfl ?_
    refine kz_gfc (M := kt_M574) (x := 4100) (c := 12) (o := 0) kX13_typeDeclaration_c1.2.1 wf_X13_193 (.inl rfl) ?_
    refine kz_iload_n (M := kt_M574) kX13_typeDeclaration_c1.2.2.1 rfl ?_
    refine kz_iald (M := kt_M574) (c := 12) (o := 0) (k := 28) (a := (E.2.1 4100)) kX13_typeDeclaration_c1.2.2.2.1 ow_12_0_28 oa_12_0_28 ot_0 h (fun h => ?_)
    refine kz_if_lt (M := kt_M574) kX13_typeDeclaration_c1.2.2.2.2.1 (t := 74) rfl h (fun h => ?_) (fun h => ?_)
    · skip
      refine kz_ic (M := kt_M574) 1 kX13_typeDeclaration_c2.2.2.2.2.1 rfl ?_
      exact kz_weak [(0, .ref (w_adr E.2.1 12 0)), (1, .int x1)] ⟨rfl, ⟨rfl, trivial⟩⟩ rfl (zt_X13_typeDeclaration_p75 hL  h)
    · skip
      refine kz_aload_n (M := kt_M574) kX13_typeDeclaration_c1.2.2.2.2.2.1 rfl ?_
      refine kz_aload_n (M := kt_M574) kX13_typeDeclaration_c1.2.2.2.2.2.2.1 rfl ?_
      refine kz_gfc (M := kt_M574) (x := 4100) (c := 12) (o := 0) kX13_typeDeclaration_c1.2.2.2.2.2.2.2.1 wf_X13_193 (.inl rfl) ?_
      refine kz_iload_n (M := kt_M574) kX13_typeDeclaration_c2.1 rfl ?_
      refine kz_iald (M := kt_M574) (c := 12) (o := 0) (k := 28) (a := (E.2.1 4100)) kX13_typeDeclaration_c2.2.1 ow_12_0_28 oa_12_0_28 ot_0 h (fun h => ?_)
      refine kz_cv1 (M := kt_M574) (c := 12) (o := 0) (As := [.int (w_a w1 12 0 28 (x1).toNatClampNeg)]) (rest := []) kX13_typeDeclaration_c2.2.2.1 wl_X13_922 wMv_539 rfl (.inl rfl) rfl (Nat.le_trans (Nat.le_of_ble_eq_true rfl) hL) (Nat.le_of_ble_eq_true rfl) (Nat.le_of_ble_eq_true rfl) h (fun v6 w5 hle h => ?_) (fun _ _ _ h => kzx_no rfl h)
      have h := h hle
      refine kz_goto (M := kt_M574) kX13_typeDeclaration_c2.2.2.2.1 (t := 75) rfl ?_
      exact kz_weak [(0, .ref (w_adr E.2.1 12 0)), (1, .int x1)] ⟨rfl, ⟨rfl, trivial⟩⟩ rfl (zt_X13_typeDeclaration_p75 hL  h)
  · skip
    refine kz_aload_n (M := kt_M574) kX13_typeDeclaration_c1.1 rfl ?_
    refine kz_gfc (M := kt_M574) (x := 4100) (c := 12) (o := 0) kX13_typeDeclaration_c1.2.1 wf_X13_193 (.inl rfl) ?_
    refine kz_iload_n (M := kt_M574) kX13_typeDeclaration_c1.2.2.1 rfl ?_
    refine kz_iald (M := kt_M574) (c := 12) (o := 0) (k := 28) (a := (E.2.1 4100)) kX13_typeDeclaration_c1.2.2.2.1 ow_12_0_28 oa_12_0_28 ot_0 h (fun h => ?_)
    refine kz_if_lt (M := kt_M574) kX13_typeDeclaration_c1.2.2.2.2.1 (t := 74) rfl h (fun h => ?_) (fun h => ?_)
    · skip
      refine kz_ic (M := kt_M574) 1 kX13_typeDeclaration_c2.2.2.2.2.1 rfl ?_
      exact kz_weak [(0, .ref (w_adr E.2.1 12 0)), (1, .int x1)] ⟨rfl, ⟨rfl, trivial⟩⟩ rfl (zt_X13_typeDeclaration_p75 hL  h)
    · skip
      refine kz_aload_n (M := kt_M574) kX13_typeDeclaration_c1.2.2.2.2.2.1 rfl ?_
      refine kz_aload_n (M := kt_M574) kX13_typeDeclaration_c1.2.2.2.2.2.2.1 rfl ?_
      refine kz_gfc (M := kt_M574) (x := 4100) (c := 12) (o := 0) kX13_typeDeclaration_c1.2.2.2.2.2.2.2.1 wf_X13_193 (.inl rfl) ?_
      refine kz_iload_n (M := kt_M574) kX13_typeDeclaration_c2.1 rfl ?_
      refine kz_iald (M := kt_M574) (c := 12) (o := 0) (k := 28) (a := (E.2.1 4100)) kX13_typeDeclaration_c2.2.1 ow_12_0_28 oa_12_0_28 ot_0 h (fun h => ?_)
      refine kz_cv1 (M := kt_M574) (c := 12) (o := 0) (As := [.int (w_a w1 12 0 28 (x1).toNatClampNeg)]) (rest := []) kX13_typeDeclaration_c2.2.2.1 wl_X13_922 wMv_539 rfl (.inl rfl) rfl (Nat.le_trans (Nat.le_of_ble_eq_true rfl) hL) (Nat.le_of_ble_eq_true rfl) (Nat.le_of_ble_eq_true rfl) h (fun v8 w7 hle h => ?_) (fun _ _ _ h => kzx_no rfl h)
      have h := h hle
      refine kz_goto (M := kt_M574) kX13_typeDeclaration_c2.2.2.2.1 (t := 75) rfl ?_
      exact kz_weak [(0, .ref (w_adr E.2.1 12 0)), (1, .int x1)] ⟨rfl, ⟨rfl, trivial⟩⟩ rfl (zt_X13_typeDeclaration_p75 hL  h)
  · skip
    refine kz_aload_n (M := kt_M574) kX13_typeDeclaration_c10.2.2.2.2.2.2.1 rfl ?_
    refine kz_gfc (M := kt_M574) (x := 4103) (c := 12) (o := 0) kX13_typeDeclaration_c10.2.2.2.2.2.2.2.1 wf_X13_202 (.inl rfl) ?_
    refine kz_iload_n (M := kt_M574) kX13_typeDeclaration_c11.1 rfl ?_
    refine kz_iald (M := kt_M574) (c := 12) (o := 0) (k := 31) (a := (E.2.1 4103)) kX13_typeDeclaration_c11.2.1 ow_12_0_31 oa_12_0_31 ot_0 h (fun h => ?_)
    refine kz_sti_n (M := kt_M574) [(0, .ref (w_adr E.2.1 12 0)), (1, .int x1)] kX13_typeDeclaration_c11.2.2.1 (Nat.le_of_ble_eq_true rfl) ⟨⟨rfl, rfl, .inl rfl⟩, ⟨⟨rfl, rfl, .inr rfl⟩, trivial⟩⟩ rfl ?_
    refine kz_aload_n (M := kt_M574) kX13_typeDeclaration_c11.2.2.2.1 rfl ?_
    refine kz_aload_n (M := kt_M574) kX13_typeDeclaration_c11.2.2.2.2.1 rfl ?_
    refine kz_gfc (M := kt_M574) (x := 4100) (c := 12) (o := 0) kX13_typeDeclaration_c11.2.2.2.2.2.1 wf_X13_193 (.inl rfl) ?_
    refine kz_iload_n (M := kt_M574) kX13_typeDeclaration_c11.2.2.2.2.2.2.1 rfl ?_
    refine kz_iald (M := kt_M574) (c := 12) (o := 0) (k := 28) (a := (E.2.1 4100)) kX13_typeDeclaration_c11.2.2.2.2.2.2.2.1 ow_12_0_28 oa_12_0_28 ot_0 h (fun h => ?_)
    refine kz_cv1 (M := kt_M574) (c := 12) (o := 0) (As := [.int (w_a w1 12 0 28 (x1).toNatClampNeg)]) (rest := []) kX13_typeDeclaration_c12.1 wl_X13_853 wMv_576 rfl (.inl rfl) rfl (Nat.le_trans (Nat.le_of_ble_eq_true rfl) hL) (Nat.le_of_ble_eq_true rfl) (Nat.le_of_ble_eq_true rfl) h (fun v10 w9 hle h => ?_) (fun _ _ _ h => kzx_no rfl h)
    have h := h hle
    refine kz_sti_n (M := kt_M574) [(0, .ref (w_adr E.2.1 12 0)), (1, .int x1), (2, .int (w_a w1 12 0 31 (x1).toNatClampNeg))] kX13_typeDeclaration_c12.2.1 (Nat.le_of_ble_eq_true rfl) ⟨⟨rfl, rfl, .inl rfl⟩, ⟨⟨rfl, rfl, .inl rfl⟩, ⟨⟨rfl, rfl, .inr rfl⟩, trivial⟩⟩⟩ rfl ?_
    refine kz_aload_n (M := kt_M574) kX13_typeDeclaration_c12.2.2.1 rfl ?_
    refine kz_gfc (M := kt_M574) (x := 4106) (c := 12) (o := 0) kX13_typeDeclaration_c12.2.2.2.1 wf_X13_211 (.inl rfl) ?_
    refine kz_iload_n (M := kt_M574) kX13_typeDeclaration_c12.2.2.2.2.1 rfl ?_
    refine kz_iald (M := kt_M574) (c := 12) (o := 0) (k := 34) (a := (E.2.1 4106)) kX13_typeDeclaration_c12.2.2.2.2.2.1 ow_12_0_34 oa_12_0_34 ot_0 h (fun h => ?_)
    refine kz_ic (M := kt_M574) 1 kX13_typeDeclaration_c12.2.2.2.2.2.2.1 rfl ?_
    refine kz_iand (M := kt_M574) kX13_typeDeclaration_c12.2.2.2.2.2.2.2.1 ?_
    refine kz_if_eq (M := kt_M574) kX13_typeDeclaration_c13.1 (t := 229) rfl h (fun h => ?_) (fun h => ?_)
    · skip
      refine kz_ic (M := kt_M574) 0 kX13_typeDeclaration_c13.2.2.2.1 rfl ?_
      exact kz_weak [(0, .ref (w_adr E.2.1 12 0)), (1, .int x1), (2, .int (w_a w1 12 0 31 (x1).toNatClampNeg)), (3, .int v10)] ⟨rfl, ⟨rfl, ⟨rfl, ⟨rfl, trivial⟩⟩⟩⟩ rfl (zt_X13_typeDeclaration_p230 hL  h)
    · skip
      refine kz_ic (M := kt_M574) 1 kX13_typeDeclaration_c13.2.1 rfl ?_
      refine kz_goto (M := kt_M574) kX13_typeDeclaration_c13.2.2.1 (t := 230) rfl ?_
      exact kz_weak [(0, .ref (w_adr E.2.1 12 0)), (1, .int x1), (2, .int (w_a w1 12 0 31 (x1).toNatClampNeg)), (3, .int v10)] ⟨rfl, ⟨rfl, ⟨rfl, ⟨rfl, trivial⟩⟩⟩⟩ rfl (zt_X13_typeDeclaration_p230 hL  h)
  · skip
    refine kz_aload_n (M := kt_M574) kX13_typeDeclaration_c22.2.2.2.2.2.2.1 rfl ?_
    refine kz_gfc (M := kt_M574) (x := 4103) (c := 12) (o := 0) kX13_typeDeclaration_c22.2.2.2.2.2.2.2.1 wf_X13_202 (.inl rfl) ?_
    refine kz_iload_n (M := kt_M574) kX13_typeDeclaration_c23.1 rfl ?_
    refine kz_iald (M := kt_M574) (c := 12) (o := 0) (k := 31) (a := (E.2.1 4103)) kX13_typeDeclaration_c23.2.1 ow_12_0_31 oa_12_0_31 ot_0 h (fun h => ?_)
    refine kz_sti_n (M := kt_M574) [(0, .ref (w_adr E.2.1 12 0)), (1, .int x1)] kX13_typeDeclaration_c23.2.2.1 (Nat.le_of_ble_eq_true rfl) ⟨⟨rfl, rfl, .inl rfl⟩, ⟨⟨rfl, rfl, .inr rfl⟩, trivial⟩⟩ rfl ?_
    refine kz_aload_n (M := kt_M574) kX13_typeDeclaration_c23.2.2.2.1 rfl ?_
    refine kz_aload_n (M := kt_M574) kX13_typeDeclaration_c23.2.2.2.2.1 rfl ?_
    refine kz_gfc (M := kt_M574) (x := 4100) (c := 12) (o := 0) kX13_typeDeclaration_c23.2.2.2.2.2.1 wf_X13_193 (.inl rfl) ?_
    refine kz_iload_n (M := kt_M574) kX13_typeDeclaration_c23.2.2.2.2.2.2.1 rfl ?_
    refine kz_iald (M := kt_M574) (c := 12) (o := 0) (k := 28) (a := (E.2.1 4100)) kX13_typeDeclaration_c23.2.2.2.2.2.2.2.1 ow_12_0_28 oa_12_0_28 ot_0 h (fun h => ?_)
    refine kz_cv1 (M := kt_M574) (c := 12) (o := 0) (As := [.int (w_a w1 12 0 28 (x1).toNatClampNeg)]) (rest := []) kX13_typeDeclaration_c24.1 wl_X13_886 wMv_577 rfl (.inl rfl) rfl (Nat.le_trans (Nat.le_of_ble_eq_true rfl) hL) (Nat.le_of_ble_eq_true rfl) (Nat.le_of_ble_eq_true rfl) h (fun v12 w11 hle h => ?_) (fun _ _ _ h => kzx_no rfl h)
    have h := h hle
    refine kz_sti_n (M := kt_M574) [(0, .ref (w_adr E.2.1 12 0)), (1, .int x1), (2, .int (w_a w1 12 0 31 (x1).toNatClampNeg))] kX13_typeDeclaration_c24.2.1 (Nat.le_of_ble_eq_true rfl) ⟨⟨rfl, rfl, .inl rfl⟩, ⟨⟨rfl, rfl, .inl rfl⟩, ⟨⟨rfl, rfl, .inr rfl⟩, trivial⟩⟩⟩ rfl ?_
    refine kz_aload_n (M := kt_M574) kX13_typeDeclaration_c24.2.2.1 rfl ?_
    refine kz_gfc (M := kt_M574) (x := 4106) (c := 12) (o := 0) kX13_typeDeclaration_c24.2.2.2.1 wf_X13_211 (.inl rfl) ?_
    refine kz_iload_n (M := kt_M574) kX13_typeDeclaration_c24.2.2.2.2.1 rfl ?_
    refine kz_iald (M := kt_M574) (c := 12) (o := 0) (k := 34) (a := (E.2.1 4106)) kX13_typeDeclaration_c24.2.2.2.2.2.1 ow_12_0_34 oa_12_0_34 ot_0 h (fun h => ?_)
    refine kz_ic (M := kt_M574) 1 kX13_typeDeclaration_c24.2.2.2.2.2.2.1 rfl ?_
    refine kz_iand (M := kt_M574) kX13_typeDeclaration_c24.2.2.2.2.2.2.2.1 ?_
    refine kz_if_eq (M := kt_M574) kX13_typeDeclaration_c25.1 (t := 398) rfl h (fun h => ?_) (fun h => ?_)
    · skip
      refine kz_ic (M := kt_M574) 0 kX13_typeDeclaration_c25.2.2.2.1 rfl ?_
      exact kz_weak [(0, .ref (w_adr E.2.1 12 0)), (1, .int x1), (2, .int (w_a w1 12 0 31 (x1).toNatClampNeg)), (3, .int v12)] ⟨rfl, ⟨rfl, ⟨rfl, ⟨rfl, trivial⟩⟩⟩⟩ rfl (zt_X13_typeDeclaration_p399 hL  h)
    · skip
      refine kz_ic (M := kt_M574) 1 kX13_typeDeclaration_c25.2.1 rfl ?_
      refine kz_goto (M := kt_M574) kX13_typeDeclaration_c25.2.2.1 (t := 399) rfl ?_
      exact kz_weak [(0, .ref (w_adr E.2.1 12 0)), (1, .int x1), (2, .int (w_a w1 12 0 31 (x1).toNatClampNeg)), (3, .int v12)] ⟨rfl, ⟨rfl, ⟨rfl, ⟨rfl, trivial⟩⟩⟩⟩ rfl (zt_X13_typeDeclaration_p399 hL  h)
  · skip
    refine kz_aload_n (M := kt_M574) kX13_typeDeclaration_c31.1 rfl ?_
    refine kz_aload_n (M := kt_M574) kX13_typeDeclaration_c31.2.1 rfl ?_
    refine kz_gfc (M := kt_M574) (x := 4101) (c := 12) (o := 0) kX13_typeDeclaration_c31.2.2.1 wf_X13_196 (.inl rfl) ?_
    refine kz_iload_n (M := kt_M574) kX13_typeDeclaration_c31.2.2.2.1 rfl ?_
    refine kz_iald (M := kt_M574) (c := 12) (o := 0) (k := 29) (a := (E.2.1 4101)) kX13_typeDeclaration_c31.2.2.2.2.1 ow_12_0_29 oa_12_0_29 ot_0 h (fun h => ?_)
    refine kz_ic (M := kt_M574) 0 kX13_typeDeclaration_c31.2.2.2.2.2.1 rfl ?_
    refine kz_aload_n (M := kt_M574) kX13_typeDeclaration_c31.2.2.2.2.2.2.1 rfl ?_
    refine kz_gfc (M := kt_M574) (x := 4099) (c := 12) (o := 0) kX13_typeDeclaration_c31.2.2.2.2.2.2.2.1 wf_X13_190 (.inl rfl) ?_
    refine kz_iload_n (M := kt_M574) kX13_typeDeclaration_c32.1 rfl ?_
    refine kz_iald (M := kt_M574) (c := 12) (o := 0) (k := 27) (a := (E.2.1 4099)) kX13_typeDeclaration_c32.2.1 ow_12_0_27 oa_12_0_27 ot_0 h (fun h => ?_)
    refine kz_cv0 (M := kt_M574) (c := 12) (o := 0) (As := [.int (w_a w1 12 0 29 (x1).toNatClampNeg), .int 0, .int (w_a w1 12 0 27 (x1).toNatClampNeg)]) (rest := []) kX13_typeDeclaration_c32.2.2.1 wl_X13_934 wMv_584 rfl (.inl rfl) rfl (Nat.le_trans (Nat.le_of_ble_eq_true rfl) hL) (Nat.le_of_ble_eq_true rfl) (Nat.le_of_ble_eq_true rfl) h (fun w13 hle h => ?_) (fun _ _ _ h => kzx_no rfl h)
    have h := h hle
    exact kz_ret (M := kt_M574) kX13_typeDeclaration_c32.2.2.2.1 rfl h
  · skip
    refine kz_aload_n (M := kt_M574) kX13_typeDeclaration_c32.2.2.2.2.1 rfl ?_
    refine kz_gfc (M := kt_M574) (x := 4101) (c := 12) (o := 0) kX13_typeDeclaration_c32.2.2.2.2.2.1 wf_X13_196 (.inl rfl) ?_
    refine kz_iload_n (M := kt_M574) kX13_typeDeclaration_c32.2.2.2.2.2.2.1 rfl ?_
    refine kz_iald (M := kt_M574) (c := 12) (o := 0) (k := 29) (a := (E.2.1 4101)) kX13_typeDeclaration_c32.2.2.2.2.2.2.2.1 ow_12_0_29 oa_12_0_29 ot_0 h (fun h => ?_)
    refine kz_sti_n (M := kt_M574) [(0, .ref (w_adr E.2.1 12 0))] kX13_typeDeclaration_c33.1 (Nat.le_of_ble_eq_true rfl) ⟨⟨rfl, rfl, .inl rfl⟩, trivial⟩ rfl ?_
    exact kz_weak [(0, .ref (w_adr E.2.1 12 0)), (2, .int (w_a w1 12 0 29 (x1).toNatClampNeg))] ⟨rfl, ⟨rfl, trivial⟩⟩ rfl h
  · skip
    refine kz_aload_n (M := kt_M574) kX13_typeDeclaration_c35.2.2.2.2.2.1 rfl ?_
    refine kz_gfg (M := kt_M574) (c := 12) (o := 0) kX13_typeDeclaration_c35.2.2.2.2.2.2.1 wf_X13_938 (.inl rfl) ?_
    refine kz_stl_n (M := kt_M574) [(0, .ref (w_adr E.2.1 12 0)), (1, .int x1)] kX13_typeDeclaration_c35.2.2.2.2.2.2.2.1 (Nat.le_of_ble_eq_true rfl) ⟨⟨rfl, rfl, .inl rfl⟩, ⟨⟨rfl, rfl, .inr rfl⟩, trivial⟩⟩ rfl rfl ?_
    refine kz_aload_n (M := kt_M574) kX13_typeDeclaration_c36.1 rfl ?_
    refine kz_gfc (M := kt_M574) (x := 4098) (c := 12) (o := 0) kX13_typeDeclaration_c36.2.1 wf_X13_187 (.inl rfl) ?_
    refine kz_iload_n (M := kt_M574) kX13_typeDeclaration_c36.2.2.1 rfl ?_
    refine kz_iald (M := kt_M574) (c := 12) (o := 0) (k := 26) (a := (E.2.1 4098)) kX13_typeDeclaration_c36.2.2.2.1 ow_12_0_26 oa_12_0_26 ot_0 h (fun h => ?_)
    refine kz_bi (M := kt_M574) 38 kX13_typeDeclaration_c36.2.2.2.2.1 rfl ?_
    refine kz_icmp_ne (M := kt_M574) kX13_typeDeclaration_c36.2.2.2.2.2.1 (t := 562) rfl h (fun h => ?_) (fun h => ?_)
    · skip
      exact kz_weak [(0, .ref (w_adr E.2.1 12 0)), (1, .int x1), (2, .long (w_g w1 12 0 79))] ⟨rfl, ⟨rfl, ⟨rfl, trivial⟩⟩⟩ rfl (zt_X13_typeDeclaration_p562 hL  h)
    · skip
      refine kz_aload_n (M := kt_M574) kX13_typeDeclaration_c36.2.2.2.2.2.2.1 rfl ?_
      refine kz_aload_n (M := kt_M574) kX13_typeDeclaration_c36.2.2.2.2.2.2.2.1 rfl ?_
      refine kz_gfc (M := kt_M574) (x := 4114) (c := 12) (o := 0) kX13_typeDeclaration_c37.1 wf_X13_217 (.inl rfl) ?_
      refine kz_iload_n (M := kt_M574) kX13_typeDeclaration_c37.2.1 rfl ?_
      refine kz_iald (M := kt_M574) (c := 12) (o := 0) (k := 42) (a := (E.2.1 4114)) kX13_typeDeclaration_c37.2.2.1 ow_12_0_42 oa_12_0_42 ot_0 h (fun h => ?_)
      refine kz_cv0 (M := kt_M574) (c := 12) (o := 0) (As := [.int (w_a w1 12 0 42 (x1).toNatClampNeg)]) (rest := []) kX13_typeDeclaration_c37.2.2.2.1 wl_X13_913 wMv_575 rfl (.inl rfl) rfl (Nat.le_trans (Nat.le_of_ble_eq_true rfl) hL) (Nat.le_of_ble_eq_true rfl) (Nat.le_of_ble_eq_true rfl) h (fun w15 hle h => ?_) (fun _ _ _ h => kzx_no rfl h)
      have h := h hle
      exact kz_weak [(0, .ref (w_adr E.2.1 12 0)), (1, .int x1), (2, .long (w_g w1 12 0 79))] ⟨rfl, ⟨rfl, ⟨rfl, trivial⟩⟩⟩ rfl (zt_X13_typeDeclaration_p562 hL  h)
def zL_X13_tellNames_p74 (E : zE) (L : Nat) (Q : kx_Rs → wS → Prop) (x1 : Int32) (x2 : Int32) (x4 : Int32) (w : wS) : Prop := kzE E L kt_M559 74 [(0, .ref (w_adr E.2.1 12 0)), (1, .int x1), (2, .int x2), (4, .int x4)] [] w Q
def zb_X13_tellNames_p130 (E : zE) (L : Nat) (Q : kx_Rs → wS → Prop) (w : wS) : Prop := Q (.inl none) w
theorem zt_X13_tellNames_p130 {E : zE} {L : Nat} {Q : kx_Rs → wS → Prop} {w : wS} (hL : 22 ≤ L) (h : zb_X13_tellNames_p130 E L Q  w) : kzE E L kt_M559 130 [(0, .ref (w_adr E.2.1 12 0))] [] w Q := by
  unfold zb_X13_tellNames_p130 at h
  exact kz_ret (M := kt_M559) kX13_tellNames_c8.2.2.2.2.2.2.1 rfl h
def zb_X13_tellNames_p74 (E : zE) (L : Nat) (Q : kx_Rs → wS → Prop) (x1 : Int32) (x2 : Int32) (x4 : Int32) (w : wS) : Prop := (if x4 < 0 then (if 400 < x2 then zb_X13_tellNames_p130 E L Q w else (if w_i w 12 0 75 ≤ 400 then zb_X13_tellNames_p130 E L Q w else (kx_inb x1 (w_n w 12 0 27) = true ∧ zw E (L - 22) kt_M560 [.ref (w_adr E.2.1 12 0), .int 9, .int (w_a w 12 0 27 (x1).toNatClampNeg)] w (wk0 (fun w1 => wle w w1 → zb_X13_tellNames_p130 E L Q w1) (fun e w => Q (.inr e) w))))) else (kx_inb x4 (w_n w 12 0 32) = true ∧ zL_X13_tellNames_p74 E L Q x1 x2 (w_a w 12 0 32 (x4).toNatClampNeg) (ws_i w 12 0 75 ((w_i w 12 0 75) + 1))))
theorem zt_X13_tellNames_p74 {E : zE} {L : Nat} {Q : kx_Rs → wS → Prop} {x1 : Int32} {x2 : Int32} {x4 : Int32} {w : wS} (hL : 22 ≤ L) (h : zb_X13_tellNames_p74 E L Q x1 x2 x4 w) : kzE E L kt_M559 74 [(0, .ref (w_adr E.2.1 12 0)), (1, .int x1), (2, .int x2), (4, .int x4)] [] w Q := by
  unfold zb_X13_tellNames_p74 at h
  refine kz_iload (M := kt_M559) kX13_tellNames_c5.2.2.1 rfl ?_
  refine kz_if_lt (M := kt_M559) kX13_tellNames_c5.2.2.2.1 (t := 101) rfl h (fun h => ?_) (fun h => ?_)
  · skip
    refine kz_iload_n (M := kt_M559) kX13_tellNames_c7.1 rfl ?_
    refine kz_si (M := kt_M559) 400 kX13_tellNames_c7.2.1 rfl ?_
    refine kz_icmp_gt (M := kt_M559) kX13_tellNames_c7.2.2.1 (t := 130) rfl h (fun h => ?_) (fun h => ?_)
    · skip
      exact kz_weak [(0, .ref (w_adr E.2.1 12 0))] ⟨rfl, trivial⟩ rfl (zt_X13_tellNames_p130 hL  h)
    · skip
      refine kz_aload_n (M := kt_M559) kX13_tellNames_c7.2.2.2.1 rfl ?_
      refine kz_gfi (M := kt_M559) (c := 12) (o := 0) kX13_tellNames_c7.2.2.2.2.1 wf_X13_925 (.inl rfl) ?_
      refine kz_si (M := kt_M559) 400 kX13_tellNames_c7.2.2.2.2.2.1 rfl ?_
      refine kz_icmp_le (M := kt_M559) kX13_tellNames_c7.2.2.2.2.2.2.1 (t := 130) rfl h (fun h => ?_) (fun h => ?_)
      · skip
        exact kz_weak [(0, .ref (w_adr E.2.1 12 0))] ⟨rfl, trivial⟩ rfl (zt_X13_tellNames_p130 hL  h)
      · skip
        refine kz_aload_n (M := kt_M559) kX13_tellNames_c7.2.2.2.2.2.2.2.1 rfl ?_
        refine kz_bi (M := kt_M559) 9 kX13_tellNames_c8.1 rfl ?_
        refine kz_aload_n (M := kt_M559) kX13_tellNames_c8.2.1 rfl ?_
        refine kz_gfc (M := kt_M559) (x := 4099) (c := 12) (o := 0) kX13_tellNames_c8.2.2.1 wf_X13_190 (.inl rfl) ?_
        refine kz_iload_n (M := kt_M559) kX13_tellNames_c8.2.2.2.1 rfl ?_
        refine kz_iald (M := kt_M559) (c := 12) (o := 0) (k := 27) (a := (E.2.1 4099)) kX13_tellNames_c8.2.2.2.2.1 ow_12_0_27 oa_12_0_27 ot_0 h (fun h => ?_)
        refine kz_cv0 (M := kt_M559) (c := 12) (o := 0) (As := [.int 9, .int (w_a w 12 0 27 (x1).toNatClampNeg)]) (rest := []) kX13_tellNames_c8.2.2.2.2.2.1 wl_X13_734 wMv_560 rfl (.inl rfl) rfl (Nat.le_trans (Nat.le_of_ble_eq_true rfl) hL) (Nat.le_of_ble_eq_true rfl) (Nat.le_of_ble_eq_true rfl) h (fun w1 hle h => ?_) (fun _ _ _ h => kzx_no rfl h)
        have h := h hle
        exact kz_weak [(0, .ref (w_adr E.2.1 12 0))] ⟨rfl, trivial⟩ rfl (zt_X13_tellNames_p130 hL  h)
  · skip
    refine kz_aload_n (M := kt_M559) kX13_tellNames_c5.2.2.2.2.1 rfl ?_
    refine kz_dup (M := kt_M559) kX13_tellNames_c5.2.2.2.2.2.1 rfl ?_
    refine kz_gfi (M := kt_M559) (c := 12) (o := 0) kX13_tellNames_c5.2.2.2.2.2.2.1 wf_X13_925 (.inl rfl) ?_
    refine kz_ic (M := kt_M559) 1 kX13_tellNames_c5.2.2.2.2.2.2.2.1 rfl ?_
    refine kz_iadd (M := kt_M559) kX13_tellNames_c6.1 ?_
    refine kz_pfi (M := kt_M559) (c := 12) (o := 0) kX13_tellNames_c6.2.1 wq_X13_925 (.inl rfl) ?_
    refine kz_aload_n (M := kt_M559) kX13_tellNames_c6.2.2.1 rfl ?_
    refine kz_gfc (M := kt_M559) (x := 4104) (c := 12) (o := 0) kX13_tellNames_c6.2.2.2.1 wf_X13_205 (.inl rfl) ?_
    refine kz_iload (M := kt_M559) kX13_tellNames_c6.2.2.2.2.1 rfl ?_
    refine kz_ialdR (M := kt_M559) (n := w_n w 12 0 32) (c := 12) (o := 0) (k := 32) (a := (E.2.1 4104)) (w_a w 12 0 32 (x4).toNatClampNeg) kX13_tellNames_c6.2.2.2.2.2.1 ow_12_0_32 oa_12_0_32 ot_0 rd_n_i rd_a_i h (fun h => ?_)
    refine kz_sti (M := kt_M559) [(0, .ref (w_adr E.2.1 12 0)), (1, .int x1), (2, .int x2)] kX13_tellNames_c6.2.2.2.2.2.2.1 (Nat.le_of_ble_eq_true rfl) ⟨⟨rfl, rfl, .inl rfl⟩, ⟨⟨rfl, rfl, .inl rfl⟩, ⟨⟨rfl, rfl, .inl rfl⟩, trivial⟩⟩⟩ rfl ?_
    refine kz_goto (M := kt_M559) kX13_tellNames_c6.2.2.2.2.2.2.2.1 (t := 74) rfl ?_
    exact kz_weak [(0, .ref (w_adr E.2.1 12 0)), (1, .int x1), (2, .int x2), (4, .int (w_a w 12 0 32 (x4).toNatClampNeg))] ⟨rfl, ⟨rfl, ⟨rfl, ⟨rfl, trivial⟩⟩⟩⟩ rfl h
def zb_X13_tellNames_p72 (E : zE) (L : Nat) (Q : kx_Rs → wS → Prop) (x1 : Int32) (x2 : Int32) (y0 : Int32) (w : wS) : Prop := zL_X13_tellNames_p74 E L Q x1 x2 y0 w
theorem zt_X13_tellNames_p72 {E : zE} {L : Nat} {Q : kx_Rs → wS → Prop} {x1 : Int32} {x2 : Int32} {y0 : Int32} {w : wS} (hL : 22 ≤ L) (h : zb_X13_tellNames_p72 E L Q x1 x2 y0 w) : kzE E L kt_M559 72 [(0, .ref (w_adr E.2.1 12 0)), (1, .int x1), (2, .int x2)] [.int y0] w Q := by
  unfold zb_X13_tellNames_p72 at h
  refine kz_sti (M := kt_M559) [(0, .ref (w_adr E.2.1 12 0)), (1, .int x1), (2, .int x2)] kX13_tellNames_c5.2.1 (Nat.le_of_ble_eq_true rfl) ⟨⟨rfl, rfl, .inl rfl⟩, ⟨⟨rfl, rfl, .inl rfl⟩, ⟨⟨rfl, rfl, .inl rfl⟩, trivial⟩⟩⟩ rfl ?_
  exact kz_weak [(0, .ref (w_adr E.2.1 12 0)), (1, .int x1), (2, .int x2), (4, .int y0)] ⟨rfl, ⟨rfl, ⟨rfl, ⟨rfl, trivial⟩⟩⟩⟩ rfl h
def zb_X13_tellNames_p58 (E : zE) (L : Nat) (Q : kx_Rs → wS → Prop) (x1 : Int32) (x2 : Int32) (x3 : Int32) (w : wS) : Prop := (if x3 = 0 then zb_X13_tellNames_p72 E L Q x1 x2 (-1) w else (kx_inb x1 (w_n w 12 0 29) = true ∧ zb_X13_tellNames_p72 E L Q x1 x2 (w_a w 12 0 29 (x1).toNatClampNeg) w))
theorem zt_X13_tellNames_p58 {E : zE} {L : Nat} {Q : kx_Rs → wS → Prop} {x1 : Int32} {x2 : Int32} {x3 : Int32} {w : wS} (hL : 22 ≤ L) (h : zb_X13_tellNames_p58 E L Q x1 x2 x3 w) : kzE E L kt_M559 58 [(0, .ref (w_adr E.2.1 12 0)), (1, .int x1), (2, .int x2), (3, .int x3)] [] w Q := by
  unfold zb_X13_tellNames_p58 at h
  refine kz_iload_n (M := kt_M559) kX13_tellNames_c4.2.1 rfl ?_
  refine kz_if_eq (M := kt_M559) kX13_tellNames_c4.2.2.1 (t := 71) rfl h (fun h => ?_) (fun h => ?_)
  · skip
    refine kz_ic (M := kt_M559) (-1) kX13_tellNames_c5.1 rfl ?_
    exact kz_weak [(0, .ref (w_adr E.2.1 12 0)), (1, .int x1), (2, .int x2)] ⟨rfl, ⟨rfl, ⟨rfl, trivial⟩⟩⟩ rfl (zt_X13_tellNames_p72 hL  h)
  · skip
    refine kz_aload_n (M := kt_M559) kX13_tellNames_c4.2.2.2.1 rfl ?_
    refine kz_gfc (M := kt_M559) (x := 4101) (c := 12) (o := 0) kX13_tellNames_c4.2.2.2.2.1 wf_X13_196 (.inl rfl) ?_
    refine kz_iload_n (M := kt_M559) kX13_tellNames_c4.2.2.2.2.2.1 rfl ?_
    refine kz_iald (M := kt_M559) (c := 12) (o := 0) (k := 29) (a := (E.2.1 4101)) kX13_tellNames_c4.2.2.2.2.2.2.1 ow_12_0_29 oa_12_0_29 ot_0 h (fun h => ?_)
    refine kz_goto (M := kt_M559) kX13_tellNames_c4.2.2.2.2.2.2.2.1 (t := 72) rfl ?_
    exact kz_weak [(0, .ref (w_adr E.2.1 12 0)), (1, .int x1), (2, .int x2)] ⟨rfl, ⟨rfl, ⟨rfl, trivial⟩⟩⟩ rfl (zt_X13_tellNames_p72 hL  h)
def zb_X13_tellNames_p43 (E : zE) (L : Nat) (Q : kx_Rs → wS → Prop) (x1 : Int32) (x2 : Int32) (y0 : Int32) (w : wS) : Prop := (if ¬ y0 = 0 then zb_X13_tellNames_p58 E L Q x1 x2 y0 w else zb_X13_tellNames_p58 E L Q x1 x2 y0 (ws_i w 12 0 75 ((w_i w 12 0 75) + 1)))
theorem zt_X13_tellNames_p43 {E : zE} {L : Nat} {Q : kx_Rs → wS → Prop} {x1 : Int32} {x2 : Int32} {y0 : Int32} {w : wS} (hL : 22 ≤ L) (h : zb_X13_tellNames_p43 E L Q x1 x2 y0 w) : kzE E L kt_M559 43 [(0, .ref (w_adr E.2.1 12 0)), (1, .int x1), (2, .int x2)] [.int y0] w Q := by
  unfold zb_X13_tellNames_p43 at h
  refine kz_sti_n (M := kt_M559) [(0, .ref (w_adr E.2.1 12 0)), (1, .int x1), (2, .int x2)] kX13_tellNames_c3.1 (Nat.le_of_ble_eq_true rfl) ⟨⟨rfl, rfl, .inl rfl⟩, ⟨⟨rfl, rfl, .inl rfl⟩, ⟨⟨rfl, rfl, .inr rfl⟩, trivial⟩⟩⟩ rfl ?_
  refine kz_iload_n (M := kt_M559) kX13_tellNames_c3.2.1 rfl ?_
  refine kz_if_ne (M := kt_M559) kX13_tellNames_c3.2.2.1 (t := 58) rfl h (fun h => ?_) (fun h => ?_)
  · skip
    exact kz_weak [(0, .ref (w_adr E.2.1 12 0)), (1, .int x1), (2, .int x2), (3, .int y0)] ⟨rfl, ⟨rfl, ⟨rfl, ⟨rfl, trivial⟩⟩⟩⟩ rfl (zt_X13_tellNames_p58 hL  h)
  · skip
    refine kz_aload_n (M := kt_M559) kX13_tellNames_c3.2.2.2.1 rfl ?_
    refine kz_dup (M := kt_M559) kX13_tellNames_c3.2.2.2.2.1 rfl ?_
    refine kz_gfi (M := kt_M559) (c := 12) (o := 0) kX13_tellNames_c3.2.2.2.2.2.1 wf_X13_925 (.inl rfl) ?_
    refine kz_ic (M := kt_M559) 1 kX13_tellNames_c3.2.2.2.2.2.2.1 rfl ?_
    refine kz_iadd (M := kt_M559) kX13_tellNames_c3.2.2.2.2.2.2.2.1 ?_
    refine kz_pfi (M := kt_M559) (c := 12) (o := 0) kX13_tellNames_c4.1 wq_X13_925 (.inl rfl) ?_
    exact kz_weak [(0, .ref (w_adr E.2.1 12 0)), (1, .int x1), (2, .int x2), (3, .int y0)] ⟨rfl, ⟨rfl, ⟨rfl, ⟨rfl, trivial⟩⟩⟩⟩ rfl (zt_X13_tellNames_p58 hL  h)
def zb_X13_tellNames_p38 (E : zE) (L : Nat) (Q : kx_Rs → wS → Prop) (x1 : Int32) (x2 : Int32) (w : wS) : Prop := zb_X13_tellNames_p43 E L Q x1 x2 1 w
theorem zt_X13_tellNames_p38 {E : zE} {L : Nat} {Q : kx_Rs → wS → Prop} {x1 : Int32} {x2 : Int32} {w : wS} (hL : 22 ≤ L) (h : zb_X13_tellNames_p38 E L Q x1 x2 w) : kzE E L kt_M559 38 [(0, .ref (w_adr E.2.1 12 0)), (1, .int x1), (2, .int x2)] [] w Q := by
  unfold zb_X13_tellNames_p38 at h
  refine kz_ic (M := kt_M559) 1 kX13_tellNames_c2.2.2.2.2.2.1 rfl ?_
  refine kz_goto (M := kt_M559) kX13_tellNames_c2.2.2.2.2.2.2.1 (t := 43) rfl ?_
  exact kz_weak [(0, .ref (w_adr E.2.1 12 0)), (1, .int x1), (2, .int x2)] ⟨rfl, ⟨rfl, ⟨rfl, trivial⟩⟩⟩ rfl (zt_X13_tellNames_p43 hL  h)
def zb_X13_tellNames_p0 (E : zE) (L : Nat) (Q : kx_Rs → wS → Prop) (x1 : Int32) (w : wS) : Prop := (kx_inb x1 (w_n w 12 0 26) = true ∧ (if w_a w 12 0 26 (x1).toNatClampNeg = 30 then zb_X13_tellNames_p38 E L Q x1 (w_i w 12 0 75) w else (kx_inb x1 (w_n w 12 0 26) = true ∧ (if w_a w 12 0 26 (x1).toNatClampNeg = 31 then zb_X13_tellNames_p38 E L Q x1 (w_i w 12 0 75) w else (kx_inb x1 (w_n w 12 0 26) = true ∧ (if ¬ w_a w 12 0 26 (x1).toNatClampNeg = 32 then zb_X13_tellNames_p43 E L Q x1 (w_i w 12 0 75) 0 w else zb_X13_tellNames_p38 E L Q x1 (w_i w 12 0 75) w))))))
theorem zt_X13_tellNames_p0 {E : zE} {L : Nat} {Q : kx_Rs → wS → Prop} {x1 : Int32} {w : wS} (hL : 22 ≤ L) (h : zb_X13_tellNames_p0 E L Q x1 w) : kzE E L kt_M559 0 [(0, .ref (w_adr E.2.1 12 0)), (1, .int x1)] [] w Q := by
  unfold zb_X13_tellNames_p0 at h
  refine kz_aload_n (M := kt_M559) kX13_tellNames_c0.1 rfl ?_
  refine kz_gfi (M := kt_M559) (c := 12) (o := 0) kX13_tellNames_c0.2.1 wf_X13_925 (.inl rfl) ?_
  refine kz_sti_n (M := kt_M559) [(0, .ref (w_adr E.2.1 12 0)), (1, .int x1)] kX13_tellNames_c0.2.2.1 (Nat.le_of_ble_eq_true rfl) ⟨⟨rfl, rfl, .inl rfl⟩, ⟨⟨rfl, rfl, .inr rfl⟩, trivial⟩⟩ rfl ?_
  refine kz_aload_n (M := kt_M559) kX13_tellNames_c0.2.2.2.1 rfl ?_
  refine kz_gfc (M := kt_M559) (x := 4098) (c := 12) (o := 0) kX13_tellNames_c0.2.2.2.2.1 wf_X13_187 (.inl rfl) ?_
  refine kz_iload_n (M := kt_M559) kX13_tellNames_c0.2.2.2.2.2.1 rfl ?_
  refine kz_iald (M := kt_M559) (c := 12) (o := 0) (k := 26) (a := (E.2.1 4098)) kX13_tellNames_c0.2.2.2.2.2.2.1 ow_12_0_26 oa_12_0_26 ot_0 h (fun h => ?_)
  refine kz_bi (M := kt_M559) 30 kX13_tellNames_c0.2.2.2.2.2.2.2.1 rfl ?_
  refine kz_icmp_eq (M := kt_M559) kX13_tellNames_c1.1 (t := 38) rfl h (fun h => ?_) (fun h => ?_)
  · skip
    exact kz_weak [(0, .ref (w_adr E.2.1 12 0)), (1, .int x1), (2, .int (w_i w 12 0 75))] ⟨rfl, ⟨rfl, ⟨rfl, trivial⟩⟩⟩ rfl (zt_X13_tellNames_p38 hL  h)
  · skip
    refine kz_aload_n (M := kt_M559) kX13_tellNames_c1.2.1 rfl ?_
    refine kz_gfc (M := kt_M559) (x := 4098) (c := 12) (o := 0) kX13_tellNames_c1.2.2.1 wf_X13_187 (.inl rfl) ?_
    refine kz_iload_n (M := kt_M559) kX13_tellNames_c1.2.2.2.1 rfl ?_
    refine kz_iald (M := kt_M559) (c := 12) (o := 0) (k := 26) (a := (E.2.1 4098)) kX13_tellNames_c1.2.2.2.2.1 ow_12_0_26 oa_12_0_26 ot_0 h (fun h => ?_)
    refine kz_bi (M := kt_M559) 31 kX13_tellNames_c1.2.2.2.2.2.1 rfl ?_
    refine kz_icmp_eq (M := kt_M559) kX13_tellNames_c1.2.2.2.2.2.2.1 (t := 38) rfl h (fun h => ?_) (fun h => ?_)
    · skip
      exact kz_weak [(0, .ref (w_adr E.2.1 12 0)), (1, .int x1), (2, .int (w_i w 12 0 75))] ⟨rfl, ⟨rfl, ⟨rfl, trivial⟩⟩⟩ rfl (zt_X13_tellNames_p38 hL  h)
    · skip
      refine kz_aload_n (M := kt_M559) kX13_tellNames_c1.2.2.2.2.2.2.2.1 rfl ?_
      refine kz_gfc (M := kt_M559) (x := 4098) (c := 12) (o := 0) kX13_tellNames_c2.1 wf_X13_187 (.inl rfl) ?_
      refine kz_iload_n (M := kt_M559) kX13_tellNames_c2.2.1 rfl ?_
      refine kz_iald (M := kt_M559) (c := 12) (o := 0) (k := 26) (a := (E.2.1 4098)) kX13_tellNames_c2.2.2.1 ow_12_0_26 oa_12_0_26 ot_0 h (fun h => ?_)
      refine kz_bi (M := kt_M559) 32 kX13_tellNames_c2.2.2.2.1 rfl ?_
      refine kz_icmp_ne (M := kt_M559) kX13_tellNames_c2.2.2.2.2.1 (t := 42) rfl h (fun h => ?_) (fun h => ?_)
      · skip
        refine kz_ic (M := kt_M559) 0 kX13_tellNames_c2.2.2.2.2.2.2.2.1 rfl ?_
        exact kz_weak [(0, .ref (w_adr E.2.1 12 0)), (1, .int x1), (2, .int (w_i w 12 0 75))] ⟨rfl, ⟨rfl, ⟨rfl, trivial⟩⟩⟩ rfl (zt_X13_tellNames_p43 hL  h)
      · skip
        exact kz_weak [(0, .ref (w_adr E.2.1 12 0)), (1, .int x1), (2, .int (w_i w 12 0 75))] ⟨rfl, ⟨rfl, ⟨rfl, trivial⟩⟩⟩ rfl (zt_X13_tellNames_p38 hL  h)
def zb_X13_sizeOf_p71 (E : zE) (L : Nat) (Q : kx_Rs → wS → Prop) (x1 : Int32) (w : wS) : Prop := (kx_inb x1 (w_n w 12 0 27) = true ∧ zw E (L - 22) kt_M560 [.ref (w_adr E.2.1 12 0), .int 9, .int (w_a w 12 0 27 (x1).toNatClampNeg)] w (wk0 (fun w1 => wle w w1 → Q (.inl (some (.int (-1)))) w1) (fun e w => Q (.inr e) w)))
theorem zt_X13_sizeOf_p71 {E : zE} {L : Nat} {Q : kx_Rs → wS → Prop} {x1 : Int32} {w : wS} (hL : 23 ≤ L) (h : zb_X13_sizeOf_p71 E L Q x1 w) : kzE E L kt_M539 71 [(0, .ref (w_adr E.2.1 12 0)), (1, .int x1)] [] w Q := by
  unfold zb_X13_sizeOf_p71 at h
  refine kz_aload_n (M := kt_M539) kX13_sizeOf_c4.2.2.2.2.2.2.1 rfl ?_
  refine kz_bi (M := kt_M539) 9 kX13_sizeOf_c4.2.2.2.2.2.2.2.1 rfl ?_
  refine kz_aload_n (M := kt_M539) kX13_sizeOf_c5.1 rfl ?_
  refine kz_gfc (M := kt_M539) (x := 4099) (c := 12) (o := 0) kX13_sizeOf_c5.2.1 wf_X13_190 (.inl rfl) ?_
  refine kz_iload_n (M := kt_M539) kX13_sizeOf_c5.2.2.1 rfl ?_
  refine kz_iald (M := kt_M539) (c := 12) (o := 0) (k := 27) (a := (E.2.1 4099)) kX13_sizeOf_c5.2.2.2.1 ow_12_0_27 oa_12_0_27 ot_0 h (fun h => ?_)
  refine kz_cv0 (M := kt_M539) (c := 12) (o := 0) (As := [.int 9, .int (w_a w 12 0 27 (x1).toNatClampNeg)]) (rest := []) kX13_sizeOf_c5.2.2.2.2.1 wl_X13_734 wMv_560 rfl (.inl rfl) rfl (Nat.le_trans (Nat.le_of_ble_eq_true rfl) hL) (Nat.le_of_ble_eq_true rfl) (Nat.le_of_ble_eq_true rfl) h (fun w1 hle h => ?_) (fun _ _ _ h => kzx_no rfl h)
  have h := h hle
  refine kz_ic (M := kt_M539) (-1) kX13_sizeOf_c5.2.2.2.2.2.1 rfl ?_
  exact kz_iret (M := kt_M539) kX13_sizeOf_c5.2.2.2.2.2.2.1 rfl rfl h
def zb_X13_sizeOf_p37 (E : zE) (L : Nat) (Q : kx_Rs → wS → Prop) (x1 : Int32) (w : wS) : Prop := zw E (L - 23) kt_M440 [.ref (w_adr E.2.1 12 0), .int x1] w (wk1 (fun v2 w1 => wle w w1 → (if v2 = 0 then zb_X13_sizeOf_p71 E L Q x1 w1 else zw E (L - 23) kt_M428 [.ref (w_adr E.2.1 12 0), .int x1] w1 (wk1 (fun v4 w3 => wle w1 w3 → (if v4 = 0 then zb_X13_sizeOf_p71 E L Q x1 w3 else (if w_i w3 12 0 24 < 1 then zb_X13_sizeOf_p71 E L Q x1 w3 else (if w_i w3 12 0 24 ≤ 200 then Q (.inl (some (.int (w_i w3 12 0 24)))) w3 else zb_X13_sizeOf_p71 E L Q x1 w3)))) (fun e w => Q (.inr e) w)))) (fun e w => Q (.inr e) w))
theorem zt_X13_sizeOf_p37 {E : zE} {L : Nat} {Q : kx_Rs → wS → Prop} {x1 : Int32} {w : wS} (hL : 23 ≤ L) (h : zb_X13_sizeOf_p37 E L Q x1 w) : kzE E L kt_M539 37 [(0, .ref (w_adr E.2.1 12 0)), (1, .int x1)] [] w Q := by
  unfold zb_X13_sizeOf_p37 at h
  refine kz_aload_n (M := kt_M539) kX13_sizeOf_c2.2.2.2.2.2.2.1 rfl ?_
  refine kz_iload_n (M := kt_M539) kX13_sizeOf_c2.2.2.2.2.2.2.2.1 rfl ?_
  refine kz_cv1 (M := kt_M539) (c := 12) (o := 0) (As := [.int x1]) (rest := []) kX13_sizeOf_c3.1 wl_X13_816 wMv_440 rfl (.inl rfl) rfl (Nat.le_trans (Nat.le_of_ble_eq_true rfl) hL) (Nat.le_of_ble_eq_true rfl) (Nat.le_of_ble_eq_true rfl) h (fun v2 w1 hle h => ?_) (fun _ _ _ h => kzx_no rfl h)
  have h := h hle
  refine kz_if_eq (M := kt_M539) kX13_sizeOf_c3.2.1 (t := 71) rfl h (fun h => ?_) (fun h => ?_)
  · skip
    exact kz_weak [(0, .ref (w_adr E.2.1 12 0)), (1, .int x1)] ⟨rfl, ⟨rfl, trivial⟩⟩ rfl (zt_X13_sizeOf_p71 hL  h)
  · skip
    refine kz_aload_n (M := kt_M539) kX13_sizeOf_c3.2.2.1 rfl ?_
    refine kz_iload_n (M := kt_M539) kX13_sizeOf_c3.2.2.2.1 rfl ?_
    refine kz_cv1 (M := kt_M539) (c := 12) (o := 0) (As := [.int x1]) (rest := []) kX13_sizeOf_c3.2.2.2.2.1 wl_X13_846 wMv_428 rfl (.inl rfl) rfl (Nat.le_trans (Nat.le_of_ble_eq_true rfl) hL) (Nat.le_of_ble_eq_true rfl) (Nat.le_of_ble_eq_true rfl) h (fun v4 w3 hle h => ?_) (fun _ _ _ h => kzx_no rfl h)
    have h := h hle
    refine kz_if_eq (M := kt_M539) kX13_sizeOf_c3.2.2.2.2.2.1 (t := 71) rfl h (fun h => ?_) (fun h => ?_)
    · skip
      exact kz_weak [(0, .ref (w_adr E.2.1 12 0)), (1, .int x1)] ⟨rfl, ⟨rfl, trivial⟩⟩ rfl (zt_X13_sizeOf_p71 hL  h)
    · skip
      refine kz_aload_n (M := kt_M539) kX13_sizeOf_c3.2.2.2.2.2.2.1 rfl ?_
      refine kz_gfi (M := kt_M539) (c := 12) (o := 0) kX13_sizeOf_c3.2.2.2.2.2.2.2.1 wf_X13_493 (.inl rfl) ?_
      refine kz_ic (M := kt_M539) 1 kX13_sizeOf_c4.1 rfl ?_
      refine kz_icmp_lt (M := kt_M539) kX13_sizeOf_c4.2.1 (t := 71) rfl h (fun h => ?_) (fun h => ?_)
      · skip
        exact kz_weak [(0, .ref (w_adr E.2.1 12 0)), (1, .int x1)] ⟨rfl, ⟨rfl, trivial⟩⟩ rfl (zt_X13_sizeOf_p71 hL  h)
      · skip
        refine kz_aload_n (M := kt_M539) kX13_sizeOf_c4.2.2.1 rfl ?_
        refine kz_gfi (M := kt_M539) (c := 12) (o := 0) kX13_sizeOf_c4.2.2.2.1 wf_X13_493 (.inl rfl) ?_
        refine kz_si (M := kt_M539) 200 kX13_sizeOf_c4.2.2.2.2.1 rfl ?_
        refine kz_icmp_le (M := kt_M539) kX13_sizeOf_c4.2.2.2.2.2.1 (t := 85) rfl h (fun h => ?_) (fun h => ?_)
        · skip
          refine kz_aload_n (M := kt_M539) kX13_sizeOf_c5.2.2.2.2.2.2.2.1 rfl ?_
          refine kz_gfi (M := kt_M539) (c := 12) (o := 0) kX13_sizeOf_c6.1 wf_X13_493 (.inl rfl) ?_
          exact kz_iret (M := kt_M539) kX13_sizeOf_c6.2.1 rfl rfl h
        · skip
          exact kz_weak [(0, .ref (w_adr E.2.1 12 0)), (1, .int x1)] ⟨rfl, ⟨rfl, trivial⟩⟩ rfl (zt_X13_sizeOf_p71 hL  h)
def zb_X13_sizeOf_p23 (E : zE) (L : Nat) (Q : kx_Rs → wS → Prop) (x1 : Int32) (w : wS) : Prop := (kx_inb x1 (w_n w 12 0 27) = true ∧ zw E (L - 22) kt_M560 [.ref (w_adr E.2.1 12 0), .int 7, .int (w_a w 12 0 27 (x1).toNatClampNeg)] w (wk0 (fun w1 => wle w w1 → Q (.inl (some (.int (-1)))) w1) (fun e w => Q (.inr e) w)))
theorem zt_X13_sizeOf_p23 {E : zE} {L : Nat} {Q : kx_Rs → wS → Prop} {x1 : Int32} {w : wS} (hL : 23 ≤ L) (h : zb_X13_sizeOf_p23 E L Q x1 w) : kzE E L kt_M539 23 [(0, .ref (w_adr E.2.1 12 0)), (1, .int x1)] [] w Q := by
  unfold zb_X13_sizeOf_p23 at h
  refine kz_aload_n (M := kt_M539) kX13_sizeOf_c1.2.2.2.2.2.1 rfl ?_
  refine kz_bi (M := kt_M539) 7 kX13_sizeOf_c1.2.2.2.2.2.2.1 rfl ?_
  refine kz_aload_n (M := kt_M539) kX13_sizeOf_c1.2.2.2.2.2.2.2.1 rfl ?_
  refine kz_gfc (M := kt_M539) (x := 4099) (c := 12) (o := 0) kX13_sizeOf_c2.1 wf_X13_190 (.inl rfl) ?_
  refine kz_iload_n (M := kt_M539) kX13_sizeOf_c2.2.1 rfl ?_
  refine kz_iald (M := kt_M539) (c := 12) (o := 0) (k := 27) (a := (E.2.1 4099)) kX13_sizeOf_c2.2.2.1 ow_12_0_27 oa_12_0_27 ot_0 h (fun h => ?_)
  refine kz_cv0 (M := kt_M539) (c := 12) (o := 0) (As := [.int 7, .int (w_a w 12 0 27 (x1).toNatClampNeg)]) (rest := []) kX13_sizeOf_c2.2.2.2.1 wl_X13_734 wMv_560 rfl (.inl rfl) rfl (Nat.le_trans (Nat.le_of_ble_eq_true rfl) hL) (Nat.le_of_ble_eq_true rfl) (Nat.le_of_ble_eq_true rfl) h (fun w1 hle h => ?_) (fun _ _ _ h => kzx_no rfl h)
  have h := h hle
  refine kz_ic (M := kt_M539) (-1) kX13_sizeOf_c2.2.2.2.2.1 rfl ?_
  exact kz_iret (M := kt_M539) kX13_sizeOf_c2.2.2.2.2.2.1 rfl rfl h
def zb_X13_sizeOf_p0 (E : zE) (L : Nat) (Q : kx_Rs → wS → Prop) (x1 : Int32) (w : wS) : Prop := zw E (L - 23) kt_M576 [.ref (w_adr E.2.1 12 0), .int x1] w (wk1 (fun v2 w1 => wle w w1 → (if v2 = (-1) then zb_X13_sizeOf_p37 E L Q x1 w1 else (if ¬ v2 = 0 then zb_X13_sizeOf_p23 E L Q x1 w1 else (if w_i w1 12 0 73 = (-1) then zb_X13_sizeOf_p37 E L Q x1 w1 else zb_X13_sizeOf_p23 E L Q x1 w1)))) (fun e w => Q (.inr e) w))
theorem zt_X13_sizeOf_p0 {E : zE} {L : Nat} {Q : kx_Rs → wS → Prop} {x1 : Int32} {w : wS} (hL : 23 ≤ L) (h : zb_X13_sizeOf_p0 E L Q x1 w) : kzE E L kt_M539 0 [(0, .ref (w_adr E.2.1 12 0)), (1, .int x1)] [] w Q := by
  unfold zb_X13_sizeOf_p0 at h
  refine kz_aload_n (M := kt_M539) kX13_sizeOf_c0.1 rfl ?_
  refine kz_iload_n (M := kt_M539) kX13_sizeOf_c0.2.1 rfl ?_
  refine kz_cv1 (M := kt_M539) (c := 12) (o := 0) (As := [.int x1]) (rest := []) kX13_sizeOf_c0.2.2.1 wl_X13_853 wMv_576 rfl (.inl rfl) rfl (Nat.le_trans (Nat.le_of_ble_eq_true rfl) hL) (Nat.le_of_ble_eq_true rfl) (Nat.le_of_ble_eq_true rfl) h (fun v2 w1 hle h => ?_) (fun _ _ _ h => kzx_no rfl h)
  have h := h hle
  refine kz_sti_n (M := kt_M539) [(0, .ref (w_adr E.2.1 12 0)), (1, .int x1)] kX13_sizeOf_c0.2.2.2.1 (Nat.le_of_ble_eq_true rfl) ⟨⟨rfl, rfl, .inl rfl⟩, ⟨⟨rfl, rfl, .inr rfl⟩, trivial⟩⟩ rfl ?_
  refine kz_iload_n (M := kt_M539) kX13_sizeOf_c0.2.2.2.2.1 rfl ?_
  refine kz_ic (M := kt_M539) (-1) kX13_sizeOf_c0.2.2.2.2.2.1 rfl ?_
  refine kz_icmp_eq (M := kt_M539) kX13_sizeOf_c0.2.2.2.2.2.2.1 (t := 37) rfl h (fun h => ?_) (fun h => ?_)
  · skip
    exact kz_weak [(0, .ref (w_adr E.2.1 12 0)), (1, .int x1)] ⟨rfl, ⟨rfl, trivial⟩⟩ rfl (zt_X13_sizeOf_p37 hL  h)
  · skip
    refine kz_iload_n (M := kt_M539) kX13_sizeOf_c0.2.2.2.2.2.2.2.1 rfl ?_
    refine kz_if_ne (M := kt_M539) kX13_sizeOf_c1.1 (t := 23) rfl h (fun h => ?_) (fun h => ?_)
    · skip
      exact kz_weak [(0, .ref (w_adr E.2.1 12 0)), (1, .int x1)] ⟨rfl, ⟨rfl, trivial⟩⟩ rfl (zt_X13_sizeOf_p23 hL  h)
    · skip
      refine kz_aload_n (M := kt_M539) kX13_sizeOf_c1.2.1 rfl ?_
      refine kz_gfi (M := kt_M539) (c := 12) (o := 0) kX13_sizeOf_c1.2.2.1 wf_X13_859 (.inl rfl) ?_
      refine kz_ic (M := kt_M539) (-1) kX13_sizeOf_c1.2.2.2.1 rfl ?_
      refine kz_icmp_eq (M := kt_M539) kX13_sizeOf_c1.2.2.2.2.1 (t := 37) rfl h (fun h => ?_) (fun h => ?_)
      · skip
        exact kz_weak [(0, .ref (w_adr E.2.1 12 0)), (1, .int x1)] ⟨rfl, ⟨rfl, trivial⟩⟩ rfl (zt_X13_sizeOf_p37 hL  h)
      · skip
        exact kz_weak [(0, .ref (w_adr E.2.1 12 0)), (1, .int x1)] ⟨rfl, ⟨rfl, trivial⟩⟩ rfl (zt_X13_sizeOf_p23 hL  h)
def zb_X13_typeE_p51 (E : zE) (L : Nat) (Q : kx_Rs → wS → Prop) (x2 : Int32) (x3 : Int32) (w : wS) : Prop := Q (.inl (some (.int x2))) (ws_i w 12 0 73 x3)
theorem zt_X13_typeE_p51 {E : zE} {L : Nat} {Q : kx_Rs → wS → Prop} {x2 : Int32} {x3 : Int32} {w : wS} (hL : 23 ≤ L) (h : zb_X13_typeE_p51 E L Q x2 x3 w) : kzE E L kt_M576 51 [(0, .ref (w_adr E.2.1 12 0)), (2, .int x2), (3, .int x3)] [] w Q := by
  unfold zb_X13_typeE_p51 at h
  refine kz_aload_n (M := kt_M576) kX13_typeE_c3.2.2.2.2.2.2.1 rfl ?_
  refine kz_iload_n (M := kt_M576) kX13_typeE_c3.2.2.2.2.2.2.2.1 rfl ?_
  refine kz_pfi (M := kt_M576) (c := 12) (o := 0) kX13_typeE_c4.1 wq_X13_859 (.inl rfl) ?_
  refine kz_iload_n (M := kt_M576) kX13_typeE_c4.2.1 rfl ?_
  exact kz_iret (M := kt_M576) kX13_typeE_c4.2.2.1 rfl rfl h
def zb_X13_typeE_p0 (E : zE) (L : Nat) (Q : kx_Rs → wS → Prop) (x1 : Int32) (w : wS) : Prop := zw E (L - 22) kt_M582 [.ref (w_adr E.2.1 12 0), .int x1] w (wk1 (fun v2 w1 => wle w w1 → (if v2 = (-1) then zb_X13_typeE_p51 E L Q v2 (w_i w1 12 0 73) w1 else zw E (L - 23) kt_M440 [.ref (w_adr E.2.1 12 0), .int x1] w1 (wk1 (fun v4 w3 => wle w1 w3 → (if v4 = 0 then zb_X13_typeE_p51 E L Q v2 (w_i w1 12 0 73) w3 else zw E (L - 23) kt_M428 [.ref (w_adr E.2.1 12 0), .int x1] w3 (wk1 (fun v6 w5 => wle w3 w5 → (if ¬ v6 = 0 then zb_X13_typeE_p51 E L Q v2 (w_i w1 12 0 73) w5 else (kx_inb x1 (w_n w5 12 0 27) = true ∧ zw E (L - 22) kt_M560 [.ref (w_adr E.2.1 12 0), .int 9, .int (w_a w5 12 0 27 (x1).toNatClampNeg)] w5 (wk0 (fun w7 => wle w5 w7 → zw E (L - 22) kt_M435 [.ref (w_adr E.2.1 12 0), .int (-1), .int (-1)] w7 (wk1 (fun v10 w9 => wle w7 w9 → Q (.inl (some (.int v10))) w9) (fun e w => Q (.inr e) w))) (fun e w => Q (.inr e) w))))) (fun e w => Q (.inr e) w)))) (fun e w => Q (.inr e) w)))) (fun e w => Q (.inr e) w))
theorem zt_X13_typeE_p0 {E : zE} {L : Nat} {Q : kx_Rs → wS → Prop} {x1 : Int32} {w : wS} (hL : 23 ≤ L) (h : zb_X13_typeE_p0 E L Q x1 w) : kzE E L kt_M576 0 [(0, .ref (w_adr E.2.1 12 0)), (1, .int x1)] [] w Q := by
  unfold zb_X13_typeE_p0 at h
  refine kz_aload_n (M := kt_M576) kX13_typeE_c0.1 rfl ?_
  refine kz_iload_n (M := kt_M576) kX13_typeE_c0.2.1 rfl ?_
  refine kz_cv1 (M := kt_M576) (c := 12) (o := 0) (As := [.int x1]) (rest := []) kX13_typeE_c0.2.2.1 wl_X13_862 wMv_582 rfl (.inl rfl) rfl (Nat.le_trans (Nat.le_of_ble_eq_true rfl) hL) (Nat.le_of_ble_eq_true rfl) (Nat.le_of_ble_eq_true rfl) h (fun v2 w1 hle h => ?_) (fun _ _ _ h => kzx_no rfl h)
  have h := h hle
  refine kz_sti_n (M := kt_M576) [(0, .ref (w_adr E.2.1 12 0)), (1, .int x1)] kX13_typeE_c0.2.2.2.1 (Nat.le_of_ble_eq_true rfl) ⟨⟨rfl, rfl, .inl rfl⟩, ⟨⟨rfl, rfl, .inr rfl⟩, trivial⟩⟩ rfl ?_
  refine kz_aload_n (M := kt_M576) kX13_typeE_c0.2.2.2.2.1 rfl ?_
  refine kz_gfi (M := kt_M576) (c := 12) (o := 0) kX13_typeE_c0.2.2.2.2.2.1 wf_X13_859 (.inl rfl) ?_
  refine kz_sti_n (M := kt_M576) [(0, .ref (w_adr E.2.1 12 0)), (1, .int x1), (2, .int v2)] kX13_typeE_c0.2.2.2.2.2.2.1 (Nat.le_of_ble_eq_true rfl) ⟨⟨rfl, rfl, .inl rfl⟩, ⟨⟨rfl, rfl, .inl rfl⟩, ⟨⟨rfl, rfl, .inr rfl⟩, trivial⟩⟩⟩ rfl ?_
  refine kz_iload_n (M := kt_M576) kX13_typeE_c0.2.2.2.2.2.2.2.1 rfl ?_
  refine kz_ic (M := kt_M576) (-1) kX13_typeE_c1.1 rfl ?_
  refine kz_icmp_eq (M := kt_M576) kX13_typeE_c1.2.1 (t := 51) rfl h (fun h => ?_) (fun h => ?_)
  · skip
    exact kz_weak [(0, .ref (w_adr E.2.1 12 0)), (2, .int v2), (3, .int (w_i w1 12 0 73))] ⟨rfl, ⟨rfl, ⟨rfl, trivial⟩⟩⟩ rfl (zt_X13_typeE_p51 hL  h)
  · skip
    refine kz_aload_n (M := kt_M576) kX13_typeE_c1.2.2.1 rfl ?_
    refine kz_iload_n (M := kt_M576) kX13_typeE_c1.2.2.2.1 rfl ?_
    refine kz_cv1 (M := kt_M576) (c := 12) (o := 0) (As := [.int x1]) (rest := []) kX13_typeE_c1.2.2.2.2.1 wl_X13_816 wMv_440 rfl (.inl rfl) rfl (Nat.le_trans (Nat.le_of_ble_eq_true rfl) hL) (Nat.le_of_ble_eq_true rfl) (Nat.le_of_ble_eq_true rfl) h (fun v4 w3 hle h => ?_) (fun _ _ _ h => kzx_no rfl h)
    have h := h hle
    refine kz_if_eq (M := kt_M576) kX13_typeE_c1.2.2.2.2.2.1 (t := 51) rfl h (fun h => ?_) (fun h => ?_)
    · skip
      exact kz_weak [(0, .ref (w_adr E.2.1 12 0)), (2, .int v2), (3, .int (w_i w1 12 0 73))] ⟨rfl, ⟨rfl, ⟨rfl, trivial⟩⟩⟩ rfl (zt_X13_typeE_p51 hL  h)
    · skip
      refine kz_aload_n (M := kt_M576) kX13_typeE_c1.2.2.2.2.2.2.1 rfl ?_
      refine kz_iload_n (M := kt_M576) kX13_typeE_c1.2.2.2.2.2.2.2.1 rfl ?_
      refine kz_cv1 (M := kt_M576) (c := 12) (o := 0) (As := [.int x1]) (rest := []) kX13_typeE_c2.1 wl_X13_846 wMv_428 rfl (.inl rfl) rfl (Nat.le_trans (Nat.le_of_ble_eq_true rfl) hL) (Nat.le_of_ble_eq_true rfl) (Nat.le_of_ble_eq_true rfl) h (fun v6 w5 hle h => ?_) (fun _ _ _ h => kzx_no rfl h)
      have h := h hle
      refine kz_if_ne (M := kt_M576) kX13_typeE_c2.2.1 (t := 51) rfl h (fun h => ?_) (fun h => ?_)
      · skip
        exact kz_weak [(0, .ref (w_adr E.2.1 12 0)), (2, .int v2), (3, .int (w_i w1 12 0 73))] ⟨rfl, ⟨rfl, ⟨rfl, trivial⟩⟩⟩ rfl (zt_X13_typeE_p51 hL  h)
      · skip
        refine kz_aload_n (M := kt_M576) kX13_typeE_c2.2.2.1 rfl ?_
        refine kz_bi (M := kt_M576) 9 kX13_typeE_c2.2.2.2.1 rfl ?_
        refine kz_aload_n (M := kt_M576) kX13_typeE_c2.2.2.2.2.1 rfl ?_
        refine kz_gfc (M := kt_M576) (x := 4099) (c := 12) (o := 0) kX13_typeE_c2.2.2.2.2.2.1 wf_X13_190 (.inl rfl) ?_
        refine kz_iload_n (M := kt_M576) kX13_typeE_c2.2.2.2.2.2.2.1 rfl ?_
        refine kz_iald (M := kt_M576) (c := 12) (o := 0) (k := 27) (a := (E.2.1 4099)) kX13_typeE_c2.2.2.2.2.2.2.2.1 ow_12_0_27 oa_12_0_27 ot_0 h (fun h => ?_)
        refine kz_cv0 (M := kt_M576) (c := 12) (o := 0) (As := [.int 9, .int (w_a w5 12 0 27 (x1).toNatClampNeg)]) (rest := []) kX13_typeE_c3.1 wl_X13_734 wMv_560 rfl (.inl rfl) rfl (Nat.le_trans (Nat.le_of_ble_eq_true rfl) hL) (Nat.le_of_ble_eq_true rfl) (Nat.le_of_ble_eq_true rfl) h (fun w7 hle h => ?_) (fun _ _ _ h => kzx_no rfl h)
        have h := h hle
        refine kz_aload_n (M := kt_M576) kX13_typeE_c3.2.1 rfl ?_
        refine kz_ic (M := kt_M576) (-1) kX13_typeE_c3.2.2.1 rfl ?_
        refine kz_ic (M := kt_M576) (-1) kX13_typeE_c3.2.2.2.1 rfl ?_
        refine kz_cv1 (M := kt_M576) (c := 12) (o := 0) (As := [.int (-1), .int (-1)]) (rest := []) kX13_typeE_c3.2.2.2.2.1 wl_X13_865 wMv_435 rfl (.inl rfl) rfl (Nat.le_trans (Nat.le_of_ble_eq_true rfl) hL) (Nat.le_of_ble_eq_true rfl) (Nat.le_of_ble_eq_true rfl) h (fun v10 w9 hle h => ?_) (fun _ _ _ h => kzx_no rfl h)
        have h := h hle
        exact kz_iret (M := kt_M576) kX13_typeE_c3.2.2.2.2.2.1 rfl rfl h
def zL_X13_typeOf_p201 (E : zE) (L : Nat) (Q : kx_Rs → wS → Prop) (x2 : Int32) (w : wS) : Prop := kzE E L kt_M582 201 [(0, .ref (w_adr E.2.1 12 0)), (2, .int x2)] [] w Q
def zb_X13_typeOf_p274 (E : zE) (L : Nat) (Q : kx_Rs → wS → Prop) (y0 : Int32) (w : wS) : Prop := zw E (L - 22) kt_M435 [.ref (w_adr E.2.1 12 0), .int y0, .int (-1)] w (wk1 (fun v2 w1 => wle w w1 → Q (.inl (some (.int v2))) w1) (fun e w => Q (.inr e) w))
theorem zt_X13_typeOf_p274 {E : zE} {L : Nat} {Q : kx_Rs → wS → Prop} {y0 : Int32} {w : wS} (hL : 27 ≤ L) (h : zb_X13_typeOf_p274 E L Q y0 w) : kzE E L kt_M582 274 [(0, .ref (w_adr E.2.1 12 0))] [.int y0, .ref (w_adr E.2.1 12 0)] w Q := by
  unfold zb_X13_typeOf_p274 at h
  refine kz_ic (M := kt_M582) (-1) kX13_typeOf_c16.2.1 rfl ?_
  refine kz_cv1 (M := kt_M582) (c := 12) (o := 0) (As := [.int y0, .int (-1)]) (rest := []) kX13_typeOf_c16.2.2.1 wl_X13_865 wMv_435 rfl (.inl rfl) rfl (Nat.le_trans (Nat.le_of_ble_eq_true rfl) hL) (Nat.le_of_ble_eq_true rfl) (Nat.le_of_ble_eq_true rfl) h (fun v2 w1 hle h => ?_) (fun _ _ _ h => kzx_no rfl h)
  have h := h hle
  exact kz_iret (M := kt_M582) kX13_typeOf_c16.2.2.2.1 rfl rfl h
def zb_X13_typeOf_p256 (E : zE) (L : Nat) (Q : kx_Rs → wS → Prop) (x2 : Int32) (y0 : Int32) (y1 : Int32) (w : wS) : Prop := zw E (L - 26) kt_M568 [.ref (w_adr E.2.1 12 0), .int y1, .int y0] w (wk0 (fun w1 => wle w w1 → (if 0 ≤ x2 then (kx_inb x2 (w_n w1 12 0 47) = true ∧ zb_X13_typeOf_p274 E L Q (w_a w1 12 0 47 (x2).toNatClampNeg) w1) else zb_X13_typeOf_p274 E L Q (-1) w1)) (fun e w => Q (.inr e) w))
theorem zt_X13_typeOf_p256 {E : zE} {L : Nat} {Q : kx_Rs → wS → Prop} {x2 : Int32} {y0 : Int32} {y1 : Int32} {w : wS} (hL : 27 ≤ L) (h : zb_X13_typeOf_p256 E L Q x2 y0 y1 w) : kzE E L kt_M582 256 [(0, .ref (w_adr E.2.1 12 0)), (2, .int x2)] [.int y0, .int y1, .ref (w_adr E.2.1 12 0)] w Q := by
  unfold zb_X13_typeOf_p256 at h
  refine kz_cv0 (M := kt_M582) (c := 12) (o := 0) (As := [.int y1, .int y0]) (rest := []) kX13_typeOf_c14.2.2.2.2.2.2.2.1 wl_X13_883 wMv_568 rfl (.inl rfl) rfl (Nat.le_trans (Nat.le_of_ble_eq_true rfl) hL) (Nat.le_of_ble_eq_true rfl) (Nat.le_of_ble_eq_true rfl) h (fun w1 hle h => ?_) (fun _ _ _ h => kzx_no rfl h)
  have h := h hle
  refine kz_aload_n (M := kt_M582) kX13_typeOf_c15.1 rfl ?_
  refine kz_iload_n (M := kt_M582) kX13_typeOf_c15.2.1 rfl ?_
  refine kz_if_ge (M := kt_M582) kX13_typeOf_c15.2.2.1 (t := 268) rfl h (fun h => ?_) (fun h => ?_)
  · skip
    refine kz_aload_n (M := kt_M582) kX13_typeOf_c15.2.2.2.2.2.1 rfl ?_
    refine kz_gfc (M := kt_M582) (x := 4119) (c := 12) (o := 0) kX13_typeOf_c15.2.2.2.2.2.2.1 wf_X13_226 (.inl rfl) ?_
    refine kz_iload_n (M := kt_M582) kX13_typeOf_c15.2.2.2.2.2.2.2.1 rfl ?_
    refine kz_iald (M := kt_M582) (c := 12) (o := 0) (k := 47) (a := (E.2.1 4119)) kX13_typeOf_c16.1 ow_12_0_47 oa_12_0_47 ot_0 h (fun h => ?_)
    exact kz_weak [(0, .ref (w_adr E.2.1 12 0))] ⟨rfl, trivial⟩ rfl (zt_X13_typeOf_p274 hL  h)
  · skip
    refine kz_ic (M := kt_M582) (-1) kX13_typeOf_c15.2.2.2.1 rfl ?_
    refine kz_goto (M := kt_M582) kX13_typeOf_c15.2.2.2.2.1 (t := 274) rfl ?_
    exact kz_weak [(0, .ref (w_adr E.2.1 12 0))] ⟨rfl, trivial⟩ rfl (zt_X13_typeOf_p274 hL  h)
def zb_X13_typeOf_p201 (E : zE) (L : Nat) (Q : kx_Rs → wS → Prop) (x2 : Int32) (w : wS) : Prop := (if x2 < 0 then zw E (L - 22) kt_M435 [.ref (w_adr E.2.1 12 0), .int 2, .int (-1)] w (wk1 (fun v2 w1 => wle w w1 → Q (.inl (some (.int v2))) w1) (fun e w => Q (.inr e) w)) else zw E (L - 23) kt_M602 [.ref (w_adr E.2.1 12 0), .int x2, .int 2] w (wk0 (fun w3 => wle w w3 → (kx_inb x2 (w_n w3 12 0 32) = true ∧ zL_X13_typeOf_p201 E L Q (w_a w3 12 0 32 (x2).toNatClampNeg) w3)) (fun e w => Q (.inr e) w)))
theorem zt_X13_typeOf_p201 {E : zE} {L : Nat} {Q : kx_Rs → wS → Prop} {x2 : Int32} {w : wS} (hL : 27 ≤ L) (h : zb_X13_typeOf_p201 E L Q x2 w) : kzE E L kt_M582 201 [(0, .ref (w_adr E.2.1 12 0)), (2, .int x2)] [] w Q := by
  unfold zb_X13_typeOf_p201 at h
  refine kz_iload_n (M := kt_M582) kX13_typeOf_c10.2.2.2.2.1 rfl ?_
  refine kz_if_lt (M := kt_M582) kX13_typeOf_c10.2.2.2.2.2.1 (t := 221) rfl h (fun h => ?_) (fun h => ?_)
  · skip
    refine kz_aload_n (M := kt_M582) kX13_typeOf_c12.1 rfl ?_
    refine kz_ic (M := kt_M582) 2 kX13_typeOf_c12.2.1 rfl ?_
    refine kz_ic (M := kt_M582) (-1) kX13_typeOf_c12.2.2.1 rfl ?_
    refine kz_cv1 (M := kt_M582) (c := 12) (o := 0) (As := [.int 2, .int (-1)]) (rest := []) kX13_typeOf_c12.2.2.2.1 wl_X13_865 wMv_435 rfl (.inl rfl) rfl (Nat.le_trans (Nat.le_of_ble_eq_true rfl) hL) (Nat.le_of_ble_eq_true rfl) (Nat.le_of_ble_eq_true rfl) h (fun v2 w1 hle h => ?_) (fun _ _ _ h => kzx_no rfl h)
    have h := h hle
    exact kz_iret (M := kt_M582) kX13_typeOf_c12.2.2.2.2.1 rfl rfl h
  · skip
    refine kz_aload_n (M := kt_M582) kX13_typeOf_c10.2.2.2.2.2.2.1 rfl ?_
    refine kz_iload_n (M := kt_M582) kX13_typeOf_c10.2.2.2.2.2.2.2.1 rfl ?_
    refine kz_ic (M := kt_M582) 2 kX13_typeOf_c11.1 rfl ?_
    refine kz_cv0 (M := kt_M582) (c := 12) (o := 0) (As := [.int x2, .int 2]) (rest := []) kX13_typeOf_c11.2.1 wl_X13_880 wMv_602 rfl (.inl rfl) rfl (Nat.le_trans (Nat.le_of_ble_eq_true rfl) hL) (Nat.le_of_ble_eq_true rfl) (Nat.le_of_ble_eq_true rfl) h (fun w3 hle h => ?_) (fun _ _ _ h => kzx_no rfl h)
    have h := h hle
    refine kz_aload_n (M := kt_M582) kX13_typeOf_c11.2.2.1 rfl ?_
    refine kz_gfc (M := kt_M582) (x := 4104) (c := 12) (o := 0) kX13_typeOf_c11.2.2.2.1 wf_X13_205 (.inl rfl) ?_
    refine kz_iload_n (M := kt_M582) kX13_typeOf_c11.2.2.2.2.1 rfl ?_
    refine kz_iald (M := kt_M582) (c := 12) (o := 0) (k := 32) (a := (E.2.1 4104)) kX13_typeOf_c11.2.2.2.2.2.1 ow_12_0_32 oa_12_0_32 ot_0 h (fun h => ?_)
    refine kz_sti_n (M := kt_M582) [(0, .ref (w_adr E.2.1 12 0))] kX13_typeOf_c11.2.2.2.2.2.2.1 (Nat.le_of_ble_eq_true rfl) ⟨⟨rfl, rfl, .inl rfl⟩, trivial⟩ rfl ?_
    refine kz_goto (M := kt_M582) kX13_typeOf_c11.2.2.2.2.2.2.2.1 (t := 201) rfl ?_
    exact kz_weak [(0, .ref (w_adr E.2.1 12 0)), (2, .int (w_a w3 12 0 32 (x2).toNatClampNeg))] ⟨rfl, ⟨rfl, trivial⟩⟩ rfl h
def zb_X13_typeOf_p164 (E : zE) (L : Nat) (Q : kx_Rs → wS → Prop) (x1 : Int32) (w : wS) : Prop := (kx_inb x1 (w_n w 12 0 29) = true ∧ zw E (L - 22) kt_M435 [.ref (w_adr E.2.1 12 0), .int (w_a w 12 0 29 (x1).toNatClampNeg), .int (-1)] w (wk1 (fun v2 w1 => wle w w1 → Q (.inl (some (.int v2))) w1) (fun e w => Q (.inr e) w)))
theorem zt_X13_typeOf_p164 {E : zE} {L : Nat} {Q : kx_Rs → wS → Prop} {x1 : Int32} {w : wS} (hL : 27 ≤ L) (h : zb_X13_typeOf_p164 E L Q x1 w) : kzE E L kt_M582 164 [(0, .ref (w_adr E.2.1 12 0)), (1, .int x1)] [] w Q := by
  unfold zb_X13_typeOf_p164 at h
  refine kz_aload_n (M := kt_M582) kX13_typeOf_c7.2.2.2.1 rfl ?_
  refine kz_aload_n (M := kt_M582) kX13_typeOf_c7.2.2.2.2.1 rfl ?_
  refine kz_gfc (M := kt_M582) (x := 4101) (c := 12) (o := 0) kX13_typeOf_c7.2.2.2.2.2.1 wf_X13_196 (.inl rfl) ?_
  refine kz_iload_n (M := kt_M582) kX13_typeOf_c7.2.2.2.2.2.2.1 rfl ?_
  refine kz_iald (M := kt_M582) (c := 12) (o := 0) (k := 29) (a := (E.2.1 4101)) kX13_typeOf_c7.2.2.2.2.2.2.2.1 ow_12_0_29 oa_12_0_29 ot_0 h (fun h => ?_)
  refine kz_ic (M := kt_M582) (-1) kX13_typeOf_c8.1 rfl ?_
  refine kz_cv1 (M := kt_M582) (c := 12) (o := 0) (As := [.int (w_a w 12 0 29 (x1).toNatClampNeg), .int (-1)]) (rest := []) kX13_typeOf_c8.2.1 wl_X13_865 wMv_435 rfl (.inl rfl) rfl (Nat.le_trans (Nat.le_of_ble_eq_true rfl) hL) (Nat.le_of_ble_eq_true rfl) (Nat.le_of_ble_eq_true rfl) h (fun v2 w1 hle h => ?_) (fun _ _ _ h => kzx_no rfl h)
  have h := h hle
  exact kz_iret (M := kt_M582) kX13_typeOf_c8.2.2.1 rfl rfl h
def zb_X13_typeOf_p158 (E : zE) (L : Nat) (Q : kx_Rs → wS → Prop) (x1 : Int32) (w : wS) : Prop := zw E (L - 21) kt_M357 [.ref (w_adr E.2.1 12 0), .int x1] w (wk1 (fun v2 w1 => wle w w1 → Q (.inl (some (.int v2))) w1) (fun e w => Q (.inr e) w))
theorem zt_X13_typeOf_p158 {E : zE} {L : Nat} {Q : kx_Rs → wS → Prop} {x1 : Int32} {w : wS} (hL : 27 ≤ L) (h : zb_X13_typeOf_p158 E L Q x1 w) : kzE E L kt_M582 158 [(0, .ref (w_adr E.2.1 12 0)), (1, .int x1)] [] w Q := by
  unfold zb_X13_typeOf_p158 at h
  refine kz_aload_n (M := kt_M582) kX13_typeOf_c6.2.2.2.2.2.2.2.1 rfl ?_
  refine kz_iload_n (M := kt_M582) kX13_typeOf_c7.1 rfl ?_
  refine kz_cv1 (M := kt_M582) (c := 12) (o := 0) (As := [.int x1]) (rest := []) kX13_typeOf_c7.2.1 wl_X13_868 wMv_357 rfl (.inl rfl) rfl (Nat.le_trans (Nat.le_of_ble_eq_true rfl) hL) (Nat.le_of_ble_eq_true rfl) (Nat.le_of_ble_eq_true rfl) h (fun v2 w1 hle h => ?_) (fun _ _ _ h => kzx_no rfl h)
  have h := h hle
  exact kz_iret (M := kt_M582) kX13_typeOf_c7.2.2.1 rfl rfl h
def zb_X13_typeOf_p0 (E : zE) (L : Nat) (Q : kx_Rs → wS → Prop) (x1 : Int32) (w : wS) : Prop := (kx_inb x1 (w_n w 12 0 26) = true ∧ (if w_a w 12 0 26 (x1).toNatClampNeg = 50 then zw E (L - 22) kt_M435 [.ref (w_adr E.2.1 12 0), .int 0, .int (-1)] w (wk1 (fun v2 w1 => wle w w1 → Q (.inl (some (.int v2))) w1) (fun e w => Q (.inr e) w)) else (if w_a w 12 0 26 (x1).toNatClampNeg = 51 then zw E (L - 22) kt_M435 [.ref (w_adr E.2.1 12 0), .int 1, .int (-1)] w (wk1 (fun v4 w3 => wle w w3 → Q (.inl (some (.int v4))) w3) (fun e w => Q (.inr e) w)) else (if w_a w 12 0 26 (x1).toNatClampNeg = 52 then (kx_inb x1 (w_n w 12 0 28) = true ∧ (kx_inb (w_a w 12 0 28 (x1).toNatClampNeg) (w_n w 12 0 20) = true ∧ zw E (L - 22) kt_M435 [.ref (w_adr E.2.1 12 0), .int 1, .int (w_a w 12 0 20 (w_a w 12 0 28 (x1).toNatClampNeg).toNatClampNeg)] w (wk1 (fun v6 w5 => wle w w5 → Q (.inl (some (.int v6))) w5) (fun e w => Q (.inr e) w)))) else (if w_a w 12 0 26 (x1).toNatClampNeg = 53 then zw E (L - 22) kt_M435 [.ref (w_adr E.2.1 12 0), .int 2, .int (-1)] w (wk1 (fun v8 w7 => wle w w7 → Q (.inl (some (.int v8))) w7) (fun e w => Q (.inr e) w)) else (if w_a w 12 0 26 (x1).toNatClampNeg = 54 then zw E (L - 22) kt_M435 [.ref (w_adr E.2.1 12 0), .int 2, .int (-1)] w (wk1 (fun v10 w9 => wle w w9 → Q (.inl (some (.int v10))) w9) (fun e w => Q (.inr e) w)) else (if w_a w 12 0 26 (x1).toNatClampNeg = 55 then zw E (L - 22) kt_M435 [.ref (w_adr E.2.1 12 0), .int 0, .int (-1)] w (wk1 (fun v12 w11 => wle w w11 → Q (.inl (some (.int v12))) w11) (fun e w => Q (.inr e) w)) else (if w_a w 12 0 26 (x1).toNatClampNeg = 56 then zw E (L - 22) kt_M435 [.ref (w_adr E.2.1 12 0), .int 0, .int (-1)] w (wk1 (fun v14 w13 => wle w w13 → Q (.inl (some (.int v14))) w13) (fun e w => Q (.inr e) w)) else (if w_a w 12 0 26 (x1).toNatClampNeg = 57 then (kx_inb x1 (w_n w 12 0 28) = true ∧ zw E (L - 23) kt_M576 [.ref (w_adr E.2.1 12 0), .int (w_a w 12 0 28 (x1).toNatClampNeg)] w (wk1 (fun v16 w15 => wle w w15 → (if v16 = (-1) then zb_X13_typeOf_p164 E L Q x1 w15 else (if ¬ w_i w15 12 0 73 = (-1) then zb_X13_typeOf_p158 E L Q x1 w15 else (if v16 ≤ 2 then zb_X13_typeOf_p164 E L Q x1 w15 else zb_X13_typeOf_p158 E L Q x1 w15)))) (fun e w => Q (.inr e) w))) else (if w_a w 12 0 26 (x1).toNatClampNeg = 58 then (kx_inb x1 (w_n w 12 0 28) = true ∧ zw E (L - 23) kt_M576 [.ref (w_adr E.2.1 12 0), .int (w_a w 12 0 28 (x1).toNatClampNeg)] w (wk1 (fun v18 w17 => wle w w17 → Q (.inl (some (.int v18))) w17) (fun e w => Q (.inr e) w))) else (if w_a w 12 0 26 (x1).toNatClampNeg = 59 then zw E (L - 25) kt_M586 [.ref (w_adr E.2.1 12 0), .int x1] w (wk1 (fun v20 w19 => wle w w19 → Q (.inl (some (.int v20))) w19) (fun e w => Q (.inr e) w)) else (if w_a w 12 0 26 (x1).toNatClampNeg = 61 then (kx_inb x1 (w_n w 12 0 31) = true ∧ (if 0 ≤ w_a w 12 0 31 (x1).toNatClampNeg then (kx_inb (w_a w 12 0 31 (x1).toNatClampNeg) (w_n w 12 0 49) = true ∧ (kx_inb (w_a w 12 0 49 (w_a w 12 0 31 (x1).toNatClampNeg).toNatClampNeg) (w_n w 12 0 28) = true ∧ zb_X13_typeOf_p256 E L Q (w_a w 12 0 31 (x1).toNatClampNeg) (w_a w 12 0 28 (w_a w 12 0 49 (w_a w 12 0 31 (x1).toNatClampNeg).toNatClampNeg).toNatClampNeg) x1 w)) else zb_X13_typeOf_p256 E L Q (w_a w 12 0 31 (x1).toNatClampNeg) (-1) x1 w)) else (if w_a w 12 0 26 (x1).toNatClampNeg = 62 then zw E (L - 23) kt_M581 [.ref (w_adr E.2.1 12 0), .int x1] w (wk1 (fun v22 w21 => wle w w21 → Q (.inl (some (.int v22))) w21) (fun e w => Q (.inr e) w)) else (if w_a w 12 0 26 (x1).toNatClampNeg = 63 then zw E (L - 27) kt_M570 [.ref (w_adr E.2.1 12 0), .int x1] w (wk1 (fun v24 w23 => wle w w23 → Q (.inl (some (.int v24))) w23) (fun e w => Q (.inr e) w)) else (if w_a w 12 0 26 (x1).toNatClampNeg = 64 then (kx_inb x1 (w_n w 12 0 28) = true ∧ zL_X13_typeOf_p201 E L Q (w_a w 12 0 28 (x1).toNatClampNeg) w) else zw E (L - 22) kt_M577 [.ref (w_adr E.2.1 12 0), .int x1] w (wk1 (fun v26 w25 => wle w w25 → Q (.inl (some (.int v26))) w25) (fun e w => Q (.inr e) w)))))))))))))))))
theorem zt_X13_typeOf_p0 {E : zE} {L : Nat} {Q : kx_Rs → wS → Prop} {x1 : Int32} {w : wS} (hL : 27 ≤ L) (h : zb_X13_typeOf_p0 E L Q x1 w) : kzE E L kt_M582 0 [(0, .ref (w_adr E.2.1 12 0)), (1, .int x1)] [] w Q := by
  unfold zb_X13_typeOf_p0 at h
  refine kz_aload_n (M := kt_M582) kX13_typeOf_c0.1 rfl ?_
  refine kz_gfc (M := kt_M582) (x := 4098) (c := 12) (o := 0) kX13_typeOf_c0.2.1 wf_X13_187 (.inl rfl) ?_
  refine kz_iload_n (M := kt_M582) kX13_typeOf_c0.2.2.1 rfl ?_
  refine kz_iald (M := kt_M582) (c := 12) (o := 0) (k := 26) (a := (E.2.1 4098)) kX13_typeOf_c0.2.2.2.1 ow_12_0_26 oa_12_0_26 ot_0 h (fun h => ?_)
  refine kz_tsw (M := kt_M582) [(50, 80), (51, 87), (52, 94), (53, 111), (54, 111), (55, 80), (56, 80), (57, 129), (58, 118), (59, 176), (61, 228), (62, 182), (63, 188), (64, 194)] [_, _, _, _, _, _, _, _, _, _, _, _, _, _] 279 dX13_typeOf_p6 (by decide +kernel) h ⟨fun h => ?_, fun h => ?_, fun h => ?_, fun h => ?_, fun h => ?_, fun h => ?_, fun h => ?_, fun h => ?_, fun h => ?_, fun h => ?_, fun h => ?_, fun h => ?_, fun h => ?_, fun h => ?_, trivial⟩ (fun h => ?_)
  · skip
    refine kz_aload_n (M := kt_M582) kX13_typeOf_c0.2.2.2.2.2.1 rfl ?_
    refine kz_ic (M := kt_M582) 0 kX13_typeOf_c0.2.2.2.2.2.2.1 rfl ?_
    refine kz_ic (M := kt_M582) (-1) kX13_typeOf_c0.2.2.2.2.2.2.2.1 rfl ?_
    refine kz_cv1 (M := kt_M582) (c := 12) (o := 0) (As := [.int 0, .int (-1)]) (rest := []) kX13_typeOf_c1.1 wl_X13_865 wMv_435 rfl (.inl rfl) rfl (Nat.le_trans (Nat.le_of_ble_eq_true rfl) hL) (Nat.le_of_ble_eq_true rfl) (Nat.le_of_ble_eq_true rfl) h (fun v2 w1 hle h => ?_) (fun _ _ _ h => kzx_no rfl h)
    have h := h hle
    exact kz_iret (M := kt_M582) kX13_typeOf_c1.2.1 rfl rfl h
  · skip
    refine kz_aload_n (M := kt_M582) kX13_typeOf_c1.2.2.1 rfl ?_
    refine kz_ic (M := kt_M582) 1 kX13_typeOf_c1.2.2.2.1 rfl ?_
    refine kz_ic (M := kt_M582) (-1) kX13_typeOf_c1.2.2.2.2.1 rfl ?_
    refine kz_cv1 (M := kt_M582) (c := 12) (o := 0) (As := [.int 1, .int (-1)]) (rest := []) kX13_typeOf_c1.2.2.2.2.2.1 wl_X13_865 wMv_435 rfl (.inl rfl) rfl (Nat.le_trans (Nat.le_of_ble_eq_true rfl) hL) (Nat.le_of_ble_eq_true rfl) (Nat.le_of_ble_eq_true rfl) h (fun v4 w3 hle h => ?_) (fun _ _ _ h => kzx_no rfl h)
    have h := h hle
    exact kz_iret (M := kt_M582) kX13_typeOf_c1.2.2.2.2.2.2.1 rfl rfl h
  · skip
    refine kz_aload_n (M := kt_M582) kX13_typeOf_c1.2.2.2.2.2.2.2.1 rfl ?_
    refine kz_ic (M := kt_M582) 1 kX13_typeOf_c2.1 rfl ?_
    refine kz_aload_n (M := kt_M582) kX13_typeOf_c2.2.1 rfl ?_
    refine kz_gfc (M := kt_M582) (x := 4092) (c := 12) (o := 0) kX13_typeOf_c2.2.2.1 wf_X13_181 (.inl rfl) ?_
    refine kz_aload_n (M := kt_M582) kX13_typeOf_c2.2.2.2.1 rfl ?_
    refine kz_gfc (M := kt_M582) (x := 4100) (c := 12) (o := 0) kX13_typeOf_c2.2.2.2.2.1 wf_X13_193 (.inl rfl) ?_
    refine kz_iload_n (M := kt_M582) kX13_typeOf_c2.2.2.2.2.2.1 rfl ?_
    refine kz_iald (M := kt_M582) (c := 12) (o := 0) (k := 28) (a := (E.2.1 4100)) kX13_typeOf_c2.2.2.2.2.2.2.1 ow_12_0_28 oa_12_0_28 ot_0 h (fun h => ?_)
    refine kz_iald (M := kt_M582) (c := 12) (o := 0) (k := 20) (a := (E.2.1 4092)) kX13_typeOf_c2.2.2.2.2.2.2.2.1 ow_12_0_20 oa_12_0_20 ot_0 h (fun h => ?_)
    refine kz_cv1 (M := kt_M582) (c := 12) (o := 0) (As := [.int 1, .int (w_a w 12 0 20 (w_a w 12 0 28 (x1).toNatClampNeg).toNatClampNeg)]) (rest := []) kX13_typeOf_c3.1 wl_X13_865 wMv_435 rfl (.inl rfl) rfl (Nat.le_trans (Nat.le_of_ble_eq_true rfl) hL) (Nat.le_of_ble_eq_true rfl) (Nat.le_of_ble_eq_true rfl) h (fun v6 w5 hle h => ?_) (fun _ _ _ h => kzx_no rfl h)
    have h := h hle
    exact kz_iret (M := kt_M582) kX13_typeOf_c3.2.1 rfl rfl h
  · skip
    refine kz_aload_n (M := kt_M582) kX13_typeOf_c3.2.2.1 rfl ?_
    refine kz_ic (M := kt_M582) 2 kX13_typeOf_c3.2.2.2.1 rfl ?_
    refine kz_ic (M := kt_M582) (-1) kX13_typeOf_c3.2.2.2.2.1 rfl ?_
    refine kz_cv1 (M := kt_M582) (c := 12) (o := 0) (As := [.int 2, .int (-1)]) (rest := []) kX13_typeOf_c3.2.2.2.2.2.1 wl_X13_865 wMv_435 rfl (.inl rfl) rfl (Nat.le_trans (Nat.le_of_ble_eq_true rfl) hL) (Nat.le_of_ble_eq_true rfl) (Nat.le_of_ble_eq_true rfl) h (fun v8 w7 hle h => ?_) (fun _ _ _ h => kzx_no rfl h)
    have h := h hle
    exact kz_iret (M := kt_M582) kX13_typeOf_c3.2.2.2.2.2.2.1 rfl rfl h
  · skip
    refine kz_aload_n (M := kt_M582) kX13_typeOf_c3.2.2.1 rfl ?_
    refine kz_ic (M := kt_M582) 2 kX13_typeOf_c3.2.2.2.1 rfl ?_
    refine kz_ic (M := kt_M582) (-1) kX13_typeOf_c3.2.2.2.2.1 rfl ?_
    refine kz_cv1 (M := kt_M582) (c := 12) (o := 0) (As := [.int 2, .int (-1)]) (rest := []) kX13_typeOf_c3.2.2.2.2.2.1 wl_X13_865 wMv_435 rfl (.inl rfl) rfl (Nat.le_trans (Nat.le_of_ble_eq_true rfl) hL) (Nat.le_of_ble_eq_true rfl) (Nat.le_of_ble_eq_true rfl) h (fun v10 w9 hle h => ?_) (fun _ _ _ h => kzx_no rfl h)
    have h := h hle
    exact kz_iret (M := kt_M582) kX13_typeOf_c3.2.2.2.2.2.2.1 rfl rfl h
  · skip
    refine kz_aload_n (M := kt_M582) kX13_typeOf_c0.2.2.2.2.2.1 rfl ?_
    refine kz_ic (M := kt_M582) 0 kX13_typeOf_c0.2.2.2.2.2.2.1 rfl ?_
    refine kz_ic (M := kt_M582) (-1) kX13_typeOf_c0.2.2.2.2.2.2.2.1 rfl ?_
    refine kz_cv1 (M := kt_M582) (c := 12) (o := 0) (As := [.int 0, .int (-1)]) (rest := []) kX13_typeOf_c1.1 wl_X13_865 wMv_435 rfl (.inl rfl) rfl (Nat.le_trans (Nat.le_of_ble_eq_true rfl) hL) (Nat.le_of_ble_eq_true rfl) (Nat.le_of_ble_eq_true rfl) h (fun v12 w11 hle h => ?_) (fun _ _ _ h => kzx_no rfl h)
    have h := h hle
    exact kz_iret (M := kt_M582) kX13_typeOf_c1.2.1 rfl rfl h
  · skip
    refine kz_aload_n (M := kt_M582) kX13_typeOf_c0.2.2.2.2.2.1 rfl ?_
    refine kz_ic (M := kt_M582) 0 kX13_typeOf_c0.2.2.2.2.2.2.1 rfl ?_
    refine kz_ic (M := kt_M582) (-1) kX13_typeOf_c0.2.2.2.2.2.2.2.1 rfl ?_
    refine kz_cv1 (M := kt_M582) (c := 12) (o := 0) (As := [.int 0, .int (-1)]) (rest := []) kX13_typeOf_c1.1 wl_X13_865 wMv_435 rfl (.inl rfl) rfl (Nat.le_trans (Nat.le_of_ble_eq_true rfl) hL) (Nat.le_of_ble_eq_true rfl) (Nat.le_of_ble_eq_true rfl) h (fun v14 w13 hle h => ?_) (fun _ _ _ h => kzx_no rfl h)
    have h := h hle
    exact kz_iret (M := kt_M582) kX13_typeOf_c1.2.1 rfl rfl h
  · skip
    refine kz_aload_n (M := kt_M582) kX13_typeOf_c4.2.2.2.2.2.2.1 rfl ?_
    refine kz_aload_n (M := kt_M582) kX13_typeOf_c4.2.2.2.2.2.2.2.1 rfl ?_
    refine kz_gfc (M := kt_M582) (x := 4100) (c := 12) (o := 0) kX13_typeOf_c5.1 wf_X13_193 (.inl rfl) ?_
    refine kz_iload_n (M := kt_M582) kX13_typeOf_c5.2.1 rfl ?_
    refine kz_iald (M := kt_M582) (c := 12) (o := 0) (k := 28) (a := (E.2.1 4100)) kX13_typeOf_c5.2.2.1 ow_12_0_28 oa_12_0_28 ot_0 h (fun h => ?_)
    refine kz_cv1 (M := kt_M582) (c := 12) (o := 0) (As := [.int (w_a w 12 0 28 (x1).toNatClampNeg)]) (rest := []) kX13_typeOf_c5.2.2.2.1 wl_X13_853 wMv_576 rfl (.inl rfl) rfl (Nat.le_trans (Nat.le_of_ble_eq_true rfl) hL) (Nat.le_of_ble_eq_true rfl) (Nat.le_of_ble_eq_true rfl) h (fun v16 w15 hle h => ?_) (fun _ _ _ h => kzx_no rfl h)
    have h := h hle
    refine kz_sti_n (M := kt_M582) [(0, .ref (w_adr E.2.1 12 0)), (1, .int x1)] kX13_typeOf_c5.2.2.2.2.1 (Nat.le_of_ble_eq_true rfl) ⟨⟨rfl, rfl, .inl rfl⟩, ⟨⟨rfl, rfl, .inr rfl⟩, trivial⟩⟩ rfl ?_
    refine kz_iload_n (M := kt_M582) kX13_typeOf_c5.2.2.2.2.2.1 rfl ?_
    refine kz_ic (M := kt_M582) (-1) kX13_typeOf_c5.2.2.2.2.2.2.1 rfl ?_
    refine kz_icmp_eq (M := kt_M582) kX13_typeOf_c5.2.2.2.2.2.2.2.1 (t := 164) rfl h (fun h => ?_) (fun h => ?_)
    · skip
      exact kz_weak [(0, .ref (w_adr E.2.1 12 0)), (1, .int x1)] ⟨rfl, ⟨rfl, trivial⟩⟩ rfl (zt_X13_typeOf_p164 hL  h)
    · skip
      refine kz_aload_n (M := kt_M582) kX13_typeOf_c6.1 rfl ?_
      refine kz_gfi (M := kt_M582) (c := 12) (o := 0) kX13_typeOf_c6.2.1 wf_X13_859 (.inl rfl) ?_
      refine kz_ic (M := kt_M582) (-1) kX13_typeOf_c6.2.2.1 rfl ?_
      refine kz_icmp_ne (M := kt_M582) kX13_typeOf_c6.2.2.2.1 (t := 158) rfl h (fun h => ?_) (fun h => ?_)
      · skip
        exact kz_weak [(0, .ref (w_adr E.2.1 12 0)), (1, .int x1)] ⟨rfl, ⟨rfl, trivial⟩⟩ rfl (zt_X13_typeOf_p158 hL  h)
      · skip
        refine kz_iload_n (M := kt_M582) kX13_typeOf_c6.2.2.2.2.1 rfl ?_
        refine kz_ic (M := kt_M582) 2 kX13_typeOf_c6.2.2.2.2.2.1 rfl ?_
        refine kz_icmp_le (M := kt_M582) kX13_typeOf_c6.2.2.2.2.2.2.1 (t := 164) rfl h (fun h => ?_) (fun h => ?_)
        · skip
          exact kz_weak [(0, .ref (w_adr E.2.1 12 0)), (1, .int x1)] ⟨rfl, ⟨rfl, trivial⟩⟩ rfl (zt_X13_typeOf_p164 hL  h)
        · skip
          exact kz_weak [(0, .ref (w_adr E.2.1 12 0)), (1, .int x1)] ⟨rfl, ⟨rfl, trivial⟩⟩ rfl (zt_X13_typeOf_p158 hL  h)
  · skip
    refine kz_aload_n (M := kt_M582) kX13_typeOf_c3.2.2.2.2.2.2.2.1 rfl ?_
    refine kz_aload_n (M := kt_M582) kX13_typeOf_c4.1 rfl ?_
    refine kz_gfc (M := kt_M582) (x := 4100) (c := 12) (o := 0) kX13_typeOf_c4.2.1 wf_X13_193 (.inl rfl) ?_
    refine kz_iload_n (M := kt_M582) kX13_typeOf_c4.2.2.1 rfl ?_
    refine kz_iald (M := kt_M582) (c := 12) (o := 0) (k := 28) (a := (E.2.1 4100)) kX13_typeOf_c4.2.2.2.1 ow_12_0_28 oa_12_0_28 ot_0 h (fun h => ?_)
    refine kz_cv1 (M := kt_M582) (c := 12) (o := 0) (As := [.int (w_a w 12 0 28 (x1).toNatClampNeg)]) (rest := []) kX13_typeOf_c4.2.2.2.2.1 wl_X13_853 wMv_576 rfl (.inl rfl) rfl (Nat.le_trans (Nat.le_of_ble_eq_true rfl) hL) (Nat.le_of_ble_eq_true rfl) (Nat.le_of_ble_eq_true rfl) h (fun v18 w17 hle h => ?_) (fun _ _ _ h => kzx_no rfl h)
    have h := h hle
    exact kz_iret (M := kt_M582) kX13_typeOf_c4.2.2.2.2.2.1 rfl rfl h
  · skip
    refine kz_aload_n (M := kt_M582) kX13_typeOf_c8.2.2.2.1 rfl ?_
    refine kz_iload_n (M := kt_M582) kX13_typeOf_c8.2.2.2.2.1 rfl ?_
    refine kz_cv1 (M := kt_M582) (c := 12) (o := 0) (As := [.int x1]) (rest := []) kX13_typeOf_c8.2.2.2.2.2.1 wl_X13_871 wMv_586 rfl (.inl rfl) rfl (Nat.le_trans (Nat.le_of_ble_eq_true rfl) hL) (Nat.le_of_ble_eq_true rfl) (Nat.le_of_ble_eq_true rfl) h (fun v20 w19 hle h => ?_) (fun _ _ _ h => kzx_no rfl h)
    have h := h hle
    exact kz_iret (M := kt_M582) kX13_typeOf_c8.2.2.2.2.2.2.1 rfl rfl h
  · skip
    refine kz_aload_n (M := kt_M582) kX13_typeOf_c12.2.2.2.2.2.1 rfl ?_
    refine kz_gfc (M := kt_M582) (x := 4103) (c := 12) (o := 0) kX13_typeOf_c12.2.2.2.2.2.2.1 wf_X13_202 (.inl rfl) ?_
    refine kz_iload_n (M := kt_M582) kX13_typeOf_c12.2.2.2.2.2.2.2.1 rfl ?_
    refine kz_iald (M := kt_M582) (c := 12) (o := 0) (k := 31) (a := (E.2.1 4103)) kX13_typeOf_c13.1 ow_12_0_31 oa_12_0_31 ot_0 h (fun h => ?_)
    refine kz_sti_n (M := kt_M582) [(0, .ref (w_adr E.2.1 12 0)), (1, .int x1)] kX13_typeOf_c13.2.1 (Nat.le_of_ble_eq_true rfl) ⟨⟨rfl, rfl, .inl rfl⟩, ⟨⟨rfl, rfl, .inr rfl⟩, trivial⟩⟩ rfl ?_
    refine kz_aload_n (M := kt_M582) kX13_typeOf_c13.2.2.1 rfl ?_
    refine kz_iload_n (M := kt_M582) kX13_typeOf_c13.2.2.2.1 rfl ?_
    refine kz_iload_n (M := kt_M582) kX13_typeOf_c13.2.2.2.2.1 rfl ?_
    refine kz_if_ge (M := kt_M582) kX13_typeOf_c13.2.2.2.2.2.1 (t := 245) rfl h (fun h => ?_) (fun h => ?_)
    · skip
      refine kz_aload_n (M := kt_M582) kX13_typeOf_c14.1 rfl ?_
      refine kz_gfc (M := kt_M582) (x := 4100) (c := 12) (o := 0) kX13_typeOf_c14.2.1 wf_X13_193 (.inl rfl) ?_
      refine kz_aload_n (M := kt_M582) kX13_typeOf_c14.2.2.1 rfl ?_
      refine kz_gfc (M := kt_M582) (x := 4121) (c := 12) (o := 0) kX13_typeOf_c14.2.2.2.1 wf_X13_232 (.inl rfl) ?_
      refine kz_iload_n (M := kt_M582) kX13_typeOf_c14.2.2.2.2.1 rfl ?_
      refine kz_iald (M := kt_M582) (c := 12) (o := 0) (k := 49) (a := (E.2.1 4121)) kX13_typeOf_c14.2.2.2.2.2.1 ow_12_0_49 oa_12_0_49 ot_0 h (fun h => ?_)
      refine kz_iald (M := kt_M582) (c := 12) (o := 0) (k := 28) (a := (E.2.1 4100)) kX13_typeOf_c14.2.2.2.2.2.2.1 ow_12_0_28 oa_12_0_28 ot_0 h (fun h => ?_)
      exact kz_weak [(0, .ref (w_adr E.2.1 12 0)), (2, .int (w_a w 12 0 31 (x1).toNatClampNeg))] ⟨rfl, ⟨rfl, trivial⟩⟩ rfl (zt_X13_typeOf_p256 hL  h)
    · skip
      refine kz_ic (M := kt_M582) (-1) kX13_typeOf_c13.2.2.2.2.2.2.1 rfl ?_
      refine kz_goto (M := kt_M582) kX13_typeOf_c13.2.2.2.2.2.2.2.1 (t := 256) rfl ?_
      exact kz_weak [(0, .ref (w_adr E.2.1 12 0)), (2, .int (w_a w 12 0 31 (x1).toNatClampNeg))] ⟨rfl, ⟨rfl, trivial⟩⟩ rfl (zt_X13_typeOf_p256 hL  h)
  · skip
    refine kz_aload_n (M := kt_M582) kX13_typeOf_c8.2.2.2.2.2.2.2.1 rfl ?_
    refine kz_iload_n (M := kt_M582) kX13_typeOf_c9.1 rfl ?_
    refine kz_cv1 (M := kt_M582) (c := 12) (o := 0) (As := [.int x1]) (rest := []) kX13_typeOf_c9.2.1 wl_X13_874 wMv_581 rfl (.inl rfl) rfl (Nat.le_trans (Nat.le_of_ble_eq_true rfl) hL) (Nat.le_of_ble_eq_true rfl) (Nat.le_of_ble_eq_true rfl) h (fun v22 w21 hle h => ?_) (fun _ _ _ h => kzx_no rfl h)
    have h := h hle
    exact kz_iret (M := kt_M582) kX13_typeOf_c9.2.2.1 rfl rfl h
  · skip
    refine kz_aload_n (M := kt_M582) kX13_typeOf_c9.2.2.2.1 rfl ?_
    refine kz_iload_n (M := kt_M582) kX13_typeOf_c9.2.2.2.2.1 rfl ?_
    refine kz_cv1 (M := kt_M582) (c := 12) (o := 0) (As := [.int x1]) (rest := []) kX13_typeOf_c9.2.2.2.2.2.1 wl_X13_877 wMv_570 rfl (.inl rfl) rfl (Nat.le_trans (Nat.le_of_ble_eq_true rfl) hL) (Nat.le_of_ble_eq_true rfl) (Nat.le_of_ble_eq_true rfl) h (fun v24 w23 hle h => ?_) (fun _ _ _ h => kzx_no rfl h)
    have h := h hle
    exact kz_iret (M := kt_M582) kX13_typeOf_c9.2.2.2.2.2.2.1 rfl rfl h
  · skip
    refine kz_aload_n (M := kt_M582) kX13_typeOf_c9.2.2.2.2.2.2.2.1 rfl ?_
    refine kz_gfc (M := kt_M582) (x := 4100) (c := 12) (o := 0) kX13_typeOf_c10.1 wf_X13_193 (.inl rfl) ?_
    refine kz_iload_n (M := kt_M582) kX13_typeOf_c10.2.1 rfl ?_
    refine kz_iald (M := kt_M582) (c := 12) (o := 0) (k := 28) (a := (E.2.1 4100)) kX13_typeOf_c10.2.2.1 ow_12_0_28 oa_12_0_28 ot_0 h (fun h => ?_)
    refine kz_sti_n (M := kt_M582) [(0, .ref (w_adr E.2.1 12 0))] kX13_typeOf_c10.2.2.2.1 (Nat.le_of_ble_eq_true rfl) ⟨⟨rfl, rfl, .inl rfl⟩, trivial⟩ rfl ?_
    exact kz_weak [(0, .ref (w_adr E.2.1 12 0)), (2, .int (w_a w 12 0 28 (x1).toNatClampNeg))] ⟨rfl, ⟨rfl, trivial⟩⟩ rfl h
  · skip
    refine kz_aload_n (M := kt_M582) kX13_typeOf_c16.2.2.2.2.1 rfl ?_
    refine kz_iload_n (M := kt_M582) kX13_typeOf_c16.2.2.2.2.2.1 rfl ?_
    refine kz_cv1 (M := kt_M582) (c := 12) (o := 0) (As := [.int x1]) (rest := []) kX13_typeOf_c16.2.2.2.2.2.2.1 wl_X13_886 wMv_577 rfl (.inl rfl) rfl (Nat.le_trans (Nat.le_of_ble_eq_true rfl) hL) (Nat.le_of_ble_eq_true rfl) (Nat.le_of_ble_eq_true rfl) h (fun v26 w25 hle h => ?_) (fun _ _ _ h => kzx_no rfl h)
    have h := h hle
    exact kz_iret (M := kt_M582) kX13_typeOf_c16.2.2.2.2.2.2.2.1 rfl rfl h
def zb_X13_is_p0 (E : zE) (L : Nat) (Q : kx_Rs → wS → Prop) (x1 : Int32) (x2 : Int32) (w : wS) : Prop := Q (.inl (some (.int x1))) (ws_i w 12 0 73 x2)
theorem zt_X13_is_p0 {E : zE} {L : Nat} {Q : kx_Rs → wS → Prop} {x1 : Int32} {x2 : Int32} {w : wS} (hL : 19 ≤ L) (h : zb_X13_is_p0 E L Q x1 x2 w) : kzE E L kt_M435 0 [(0, .ref (w_adr E.2.1 12 0)), (1, .int x1), (2, .int x2)] [] w Q := by
  unfold zb_X13_is_p0 at h
  refine kz_aload_n (M := kt_M435) kX13_is_c0.1 rfl ?_
  refine kz_iload_n (M := kt_M435) kX13_is_c0.2.1 rfl ?_
  refine kz_pfi (M := kt_M435) (c := 12) (o := 0) kX13_is_c0.2.2.1 wq_X13_859 (.inl rfl) ?_
  refine kz_iload_n (M := kt_M435) kX13_is_c0.2.2.2.1 rfl ?_
  exact kz_iret (M := kt_M435) kX13_is_c0.2.2.2.2.1 rfl rfl h
def zb_X13_bad_p0 (E : zE) (L : Nat) (Q : kx_Rs → wS → Prop) (x1 : Int32) (w : wS) : Prop := (kx_inb x1 (w_n w 12 0 27) = true ∧ zw E (L - 22) kt_M560 [.ref (w_adr E.2.1 12 0), .int 7, .int (w_a w 12 0 27 (x1).toNatClampNeg)] w (wk0 (fun w1 => wle w w1 → Q (.inl (some (.int (-1)))) (ws_i w1 12 0 73 (-1))) (fun e w => Q (.inr e) w)))
theorem zt_X13_bad_p0 {E : zE} {L : Nat} {Q : kx_Rs → wS → Prop} {x1 : Int32} {w : wS} (hL : 22 ≤ L) (h : zb_X13_bad_p0 E L Q x1 w) : kzE E L kt_M357 0 [(0, .ref (w_adr E.2.1 12 0)), (1, .int x1)] [] w Q := by
  unfold zb_X13_bad_p0 at h
  refine kz_aload_n (M := kt_M357) kX13_bad_c0.1 rfl ?_
  refine kz_bi (M := kt_M357) 7 kX13_bad_c0.2.1 rfl ?_
  refine kz_aload_n (M := kt_M357) kX13_bad_c0.2.2.1 rfl ?_
  refine kz_gfc (M := kt_M357) (x := 4099) (c := 12) (o := 0) kX13_bad_c0.2.2.2.1 wf_X13_190 (.inl rfl) ?_
  refine kz_iload_n (M := kt_M357) kX13_bad_c0.2.2.2.2.1 rfl ?_
  refine kz_iald (M := kt_M357) (c := 12) (o := 0) (k := 27) (a := (E.2.1 4099)) kX13_bad_c0.2.2.2.2.2.1 ow_12_0_27 oa_12_0_27 ot_0 h (fun h => ?_)
  refine kz_cv0 (M := kt_M357) (c := 12) (o := 0) (As := [.int 7, .int (w_a w 12 0 27 (x1).toNatClampNeg)]) (rest := []) kX13_bad_c0.2.2.2.2.2.2.1 wl_X13_734 wMv_560 rfl (.inl rfl) rfl (Nat.le_trans (Nat.le_of_ble_eq_true rfl) hL) (Nat.le_of_ble_eq_true rfl) (Nat.le_of_ble_eq_true rfl) h (fun w1 hle h => ?_) (fun _ _ _ h => kzx_no rfl h)
  have h := h hle
  refine kz_aload_n (M := kt_M357) kX13_bad_c0.2.2.2.2.2.2.2.1 rfl ?_
  refine kz_ic (M := kt_M357) (-1) kX13_bad_c1.1 rfl ?_
  refine kz_pfi (M := kt_M357) (c := 12) (o := 0) kX13_bad_c1.2.1 wq_X13_859 (.inl rfl) ?_
  refine kz_ic (M := kt_M357) (-1) kX13_bad_c1.2.2.1 rfl ?_
  exact kz_iret (M := kt_M357) kX13_bad_c1.2.2.2.1 rfl rfl h
def zL_X13_typeTable_p12 (E : zE) (L : Nat) (Q : kx_Rs → wS → Prop) (x1 : Int32) (x2 : Int32) (x3 : Int32) (x4 : Int32) (w : wS) : Prop := kzE E L kt_M586 12 [(0, .ref (w_adr E.2.1 12 0)), (1, .int x1), (2, .int x2), (3, .int x3), (4, .int x4)] [] w Q
def zb_X13_typeTable_p80 (E : zE) (L : Nat) (Q : kx_Rs → wS → Prop) (x1 : Int32) (x2 : Int32) (x3 : Int32) (x4 : Int32) (w : wS) : Prop := (kx_inb x4 (w_n w 12 0 32) = true ∧ zL_X13_typeTable_p12 E L Q x1 x2 x3 (w_a w 12 0 32 (x4).toNatClampNeg) w)
theorem zt_X13_typeTable_p80 {E : zE} {L : Nat} {Q : kx_Rs → wS → Prop} {x1 : Int32} {x2 : Int32} {x3 : Int32} {x4 : Int32} {w : wS} (hL : 23 ≤ L) (h : zb_X13_typeTable_p80 E L Q x1 x2 x3 x4 w) : kzE E L kt_M586 80 [(0, .ref (w_adr E.2.1 12 0)), (1, .int x1), (2, .int x2), (3, .int x3), (4, .int x4)] [] w Q := by
  unfold zb_X13_typeTable_p80 at h
  refine kz_aload_n (M := kt_M586) kX13_typeTable_c5.2.2.2.1 rfl ?_
  refine kz_gfc (M := kt_M586) (x := 4104) (c := 12) (o := 0) kX13_typeTable_c5.2.2.2.2.1 wf_X13_205 (.inl rfl) ?_
  refine kz_iload (M := kt_M586) kX13_typeTable_c5.2.2.2.2.2.1 rfl ?_
  refine kz_iald (M := kt_M586) (c := 12) (o := 0) (k := 32) (a := (E.2.1 4104)) kX13_typeTable_c5.2.2.2.2.2.2.1 ow_12_0_32 oa_12_0_32 ot_0 h (fun h => ?_)
  refine kz_sti (M := kt_M586) [(0, .ref (w_adr E.2.1 12 0)), (1, .int x1), (2, .int x2), (3, .int x3)] kX13_typeTable_c5.2.2.2.2.2.2.2.1 (Nat.le_of_ble_eq_true rfl) ⟨⟨rfl, rfl, .inl rfl⟩, ⟨⟨rfl, rfl, .inl rfl⟩, ⟨⟨rfl, rfl, .inl rfl⟩, ⟨⟨rfl, rfl, .inr rfl⟩, trivial⟩⟩⟩⟩ rfl ?_
  refine kz_goto (M := kt_M586) kX13_typeTable_c6.1 (t := 12) rfl ?_
  exact kz_weak [(0, .ref (w_adr E.2.1 12 0)), (1, .int x1), (2, .int x2), (3, .int x3), (4, .int (w_a w 12 0 32 (x4).toNatClampNeg))] ⟨rfl, ⟨rfl, ⟨rfl, ⟨rfl, ⟨rfl, trivial⟩⟩⟩⟩⟩ rfl h
def zb_X13_typeTable_p77 (E : zE) (L : Nat) (Q : kx_Rs → wS → Prop) (x1 : Int32) (x3 : Int32) (x4 : Int32) (x5 : Int32) (w : wS) : Prop := zb_X13_typeTable_p80 E L Q x1 x5 x3 x4 w
theorem zt_X13_typeTable_p77 {E : zE} {L : Nat} {Q : kx_Rs → wS → Prop} {x1 : Int32} {x3 : Int32} {x4 : Int32} {x5 : Int32} {w : wS} (hL : 23 ≤ L) (h : zb_X13_typeTable_p77 E L Q x1 x3 x4 x5 w) : kzE E L kt_M586 77 [(0, .ref (w_adr E.2.1 12 0)), (1, .int x1), (3, .int x3), (4, .int x4), (5, .int x5)] [] w Q := by
  unfold zb_X13_typeTable_p77 at h
  refine kz_iload (M := kt_M586) kX13_typeTable_c5.2.1 rfl ?_
  refine kz_sti_n (M := kt_M586) [(0, .ref (w_adr E.2.1 12 0)), (1, .int x1), (3, .int x3), (4, .int x4)] kX13_typeTable_c5.2.2.1 (Nat.le_of_ble_eq_true rfl) ⟨⟨rfl, rfl, .inl rfl⟩, ⟨⟨rfl, rfl, .inr rfl⟩, ⟨⟨rfl, rfl, .inl rfl⟩, ⟨⟨rfl, rfl, .inl rfl⟩, trivial⟩⟩⟩⟩ rfl ?_
  exact kz_weak [(0, .ref (w_adr E.2.1 12 0)), (1, .int x1), (2, .int x5), (3, .int x3), (4, .int x4)] ⟨rfl, ⟨rfl, ⟨rfl, ⟨rfl, ⟨rfl, trivial⟩⟩⟩⟩⟩ rfl (zt_X13_typeTable_p80 hL  h)
def zb_X13_typeTable_p62 (E : zE) (L : Nat) (Q : kx_Rs → wS → Prop) (x1 : Int32) (x2 : Int32) (x3 : Int32) (x4 : Int32) (w : wS) : Prop := (kx_inb x1 (w_n w 12 0 27) = true ∧ zw E (L - 22) kt_M560 [.ref (w_adr E.2.1 12 0), .int 7, .int (w_a w 12 0 27 (x1).toNatClampNeg)] w (wk0 (fun w1 => wle w w1 → zb_X13_typeTable_p80 E L Q x1 x2 x3 x4 w1) (fun e w => Q (.inr e) w)))
theorem zt_X13_typeTable_p62 {E : zE} {L : Nat} {Q : kx_Rs → wS → Prop} {x1 : Int32} {x2 : Int32} {x3 : Int32} {x4 : Int32} {w : wS} (hL : 23 ≤ L) (h : zb_X13_typeTable_p62 E L Q x1 x2 x3 x4 w) : kzE E L kt_M586 62 [(0, .ref (w_adr E.2.1 12 0)), (1, .int x1), (2, .int x2), (3, .int x3), (4, .int x4)] [] w Q := by
  unfold zb_X13_typeTable_p62 at h
  refine kz_aload_n (M := kt_M586) kX13_typeTable_c4.2.1 rfl ?_
  refine kz_bi (M := kt_M586) 7 kX13_typeTable_c4.2.2.1 rfl ?_
  refine kz_aload_n (M := kt_M586) kX13_typeTable_c4.2.2.2.1 rfl ?_
  refine kz_gfc (M := kt_M586) (x := 4099) (c := 12) (o := 0) kX13_typeTable_c4.2.2.2.2.1 wf_X13_190 (.inl rfl) ?_
  refine kz_iload_n (M := kt_M586) kX13_typeTable_c4.2.2.2.2.2.1 rfl ?_
  refine kz_iald (M := kt_M586) (c := 12) (o := 0) (k := 27) (a := (E.2.1 4099)) kX13_typeTable_c4.2.2.2.2.2.2.1 ow_12_0_27 oa_12_0_27 ot_0 h (fun h => ?_)
  refine kz_cv0 (M := kt_M586) (c := 12) (o := 0) (As := [.int 7, .int (w_a w 12 0 27 (x1).toNatClampNeg)]) (rest := []) kX13_typeTable_c4.2.2.2.2.2.2.2.1 wl_X13_734 wMv_560 rfl (.inl rfl) rfl (Nat.le_trans (Nat.le_of_ble_eq_true rfl) hL) (Nat.le_of_ble_eq_true rfl) (Nat.le_of_ble_eq_true rfl) h (fun w1 hle h => ?_) (fun _ _ _ h => kzx_no rfl h)
  have h := h hle
  refine kz_goto (M := kt_M586) kX13_typeTable_c5.1 (t := 80) rfl ?_
  exact kz_weak [(0, .ref (w_adr E.2.1 12 0)), (1, .int x1), (2, .int x2), (3, .int x3), (4, .int x4)] ⟨rfl, ⟨rfl, ⟨rfl, ⟨rfl, ⟨rfl, trivial⟩⟩⟩⟩⟩ rfl (zt_X13_typeTable_p80 hL  h)
def zb_X13_typeTable_p12 (E : zE) (L : Nat) (Q : kx_Rs → wS → Prop) (x1 : Int32) (x2 : Int32) (x3 : Int32) (x4 : Int32) (w : wS) : Prop := (if x4 < 0 then zw E (L - 22) kt_M435 [.ref (w_adr E.2.1 12 0), .int x2, .int x3] w (wk1 (fun v2 w1 => wle w w1 → Q (.inl (some (.int v2))) w1) (fun e w => Q (.inr e) w)) else zw E (L - 23) kt_M576 [.ref (w_adr E.2.1 12 0), .int x4] w (wk1 (fun v4 w3 => wle w w3 → (if ¬ v4 = (-1) then (if ¬ w_i w3 12 0 73 = (-1) then zb_X13_typeTable_p62 E L Q x1 x2 (x3 + 1) x4 w3 else (if 2 < v4 then zb_X13_typeTable_p62 E L Q x1 x2 (x3 + 1) x4 w3 else (if x2 = (-1) then zb_X13_typeTable_p77 E L Q x1 (x3 + 1) x4 v4 w3 else (if v4 = x2 then zb_X13_typeTable_p77 E L Q x1 (x3 + 1) x4 v4 w3 else zb_X13_typeTable_p62 E L Q x1 x2 (x3 + 1) x4 w3)))) else zb_X13_typeTable_p80 E L Q x1 x2 (x3 + 1) x4 w3)) (fun e w => Q (.inr e) w)))
theorem zt_X13_typeTable_p12 {E : zE} {L : Nat} {Q : kx_Rs → wS → Prop} {x1 : Int32} {x2 : Int32} {x3 : Int32} {x4 : Int32} {w : wS} (hL : 23 ≤ L) (h : zb_X13_typeTable_p12 E L Q x1 x2 x3 x4 w) : kzE E L kt_M586 12 [(0, .ref (w_adr E.2.1 12 0)), (1, .int x1), (2, .int x2), (3, .int x3), (4, .int x4)] [] w Q := by
  unfold zb_X13_typeTable_p12 at h
  refine kz_iload (M := kt_M586) kX13_typeTable_c1.2.1 rfl ?_
  refine kz_if_lt (M := kt_M586) kX13_typeTable_c1.2.2.1 (t := 92) rfl h (fun h => ?_) (fun h => ?_)
  · skip
    refine kz_aload_n (M := kt_M586) kX13_typeTable_c6.2.1 rfl ?_
    refine kz_iload_n (M := kt_M586) kX13_typeTable_c6.2.2.1 rfl ?_
    refine kz_iload_n (M := kt_M586) kX13_typeTable_c6.2.2.2.1 rfl ?_
    refine kz_cv1 (M := kt_M586) (c := 12) (o := 0) (As := [.int x2, .int x3]) (rest := []) kX13_typeTable_c6.2.2.2.2.1 wl_X13_865 wMv_435 rfl (.inl rfl) rfl (Nat.le_trans (Nat.le_of_ble_eq_true rfl) hL) (Nat.le_of_ble_eq_true rfl) (Nat.le_of_ble_eq_true rfl) h (fun v2 w1 hle h => ?_) (fun _ _ _ h => kzx_no rfl h)
    have h := h hle
    exact kz_iret (M := kt_M586) kX13_typeTable_c6.2.2.2.2.2.1 rfl rfl h
  · skip
    refine kz_aload_n (M := kt_M586) kX13_typeTable_c1.2.2.2.1 rfl ?_
    refine kz_iload (M := kt_M586) kX13_typeTable_c1.2.2.2.2.1 rfl ?_
    refine kz_cv1 (M := kt_M586) (c := 12) (o := 0) (As := [.int x4]) (rest := []) kX13_typeTable_c1.2.2.2.2.2.1 wl_X13_853 wMv_576 rfl (.inl rfl) rfl (Nat.le_trans (Nat.le_of_ble_eq_true rfl) hL) (Nat.le_of_ble_eq_true rfl) (Nat.le_of_ble_eq_true rfl) h (fun v4 w3 hle h => ?_) (fun _ _ _ h => kzx_no rfl h)
    have h := h hle
    refine kz_sti (M := kt_M586) [(0, .ref (w_adr E.2.1 12 0)), (1, .int x1), (2, .int x2), (3, .int x3), (4, .int x4)] kX13_typeTable_c1.2.2.2.2.2.2.1 (Nat.le_of_ble_eq_true rfl) ⟨⟨rfl, rfl, .inl rfl⟩, ⟨⟨rfl, rfl, .inl rfl⟩, ⟨⟨rfl, rfl, .inl rfl⟩, ⟨⟨rfl, rfl, .inl rfl⟩, ⟨⟨rfl, rfl, .inr rfl⟩, trivial⟩⟩⟩⟩⟩ rfl ?_
    refine kz_inc (M := kt_M586) [(0, .ref (w_adr E.2.1 12 0)), (1, .int x1), (2, .int x2), (4, .int x4), (5, .int v4)] kX13_typeTable_c1.2.2.2.2.2.2.2.1 rfl (Nat.le_of_ble_eq_true rfl) ⟨⟨rfl, rfl, .inl rfl⟩, ⟨⟨rfl, rfl, .inl rfl⟩, ⟨⟨rfl, rfl, .inr rfl⟩, ⟨⟨rfl, rfl, .inl rfl⟩, ⟨⟨rfl, rfl, .inl rfl⟩, trivial⟩⟩⟩⟩⟩ rfl ?_
    refine kz_iload (M := kt_M586) kX13_typeTable_c2.1 rfl ?_
    refine kz_ic (M := kt_M586) (-1) kX13_typeTable_c2.2.1 rfl ?_
    refine kz_icmp_ne (M := kt_M586) kX13_typeTable_c2.2.2.1 (t := 37) rfl h (fun h => ?_) (fun h => ?_)
    · skip
      refine kz_aload_n (M := kt_M586) kX13_typeTable_c2.2.2.2.2.1 rfl ?_
      refine kz_gfi (M := kt_M586) (c := 12) (o := 0) kX13_typeTable_c2.2.2.2.2.2.1 wf_X13_859 (.inl rfl) ?_
      refine kz_ic (M := kt_M586) (-1) kX13_typeTable_c2.2.2.2.2.2.2.1 rfl ?_
      refine kz_icmp_ne (M := kt_M586) kX13_typeTable_c2.2.2.2.2.2.2.2.1 (t := 62) rfl h (fun h => ?_) (fun h => ?_)
      · skip
        exact kz_weak [(0, .ref (w_adr E.2.1 12 0)), (1, .int x1), (2, .int x2), (3, .int (x3 + 1)), (4, .int x4)] ⟨rfl, ⟨rfl, ⟨rfl, ⟨rfl, ⟨rfl, trivial⟩⟩⟩⟩⟩ rfl (zt_X13_typeTable_p62 hL  h)
      · skip
        refine kz_iload (M := kt_M586) kX13_typeTable_c3.1 rfl ?_
        refine kz_ic (M := kt_M586) 2 kX13_typeTable_c3.2.1 rfl ?_
        refine kz_icmp_gt (M := kt_M586) kX13_typeTable_c3.2.2.1 (t := 62) rfl h (fun h => ?_) (fun h => ?_)
        · skip
          exact kz_weak [(0, .ref (w_adr E.2.1 12 0)), (1, .int x1), (2, .int x2), (3, .int (x3 + 1)), (4, .int x4)] ⟨rfl, ⟨rfl, ⟨rfl, ⟨rfl, ⟨rfl, trivial⟩⟩⟩⟩⟩ rfl (zt_X13_typeTable_p62 hL  h)
        · skip
          refine kz_iload_n (M := kt_M586) kX13_typeTable_c3.2.2.2.1 rfl ?_
          refine kz_ic (M := kt_M586) (-1) kX13_typeTable_c3.2.2.2.2.1 rfl ?_
          refine kz_icmp_eq (M := kt_M586) kX13_typeTable_c3.2.2.2.2.2.1 (t := 77) rfl h (fun h => ?_) (fun h => ?_)
          · skip
            exact kz_weak [(0, .ref (w_adr E.2.1 12 0)), (1, .int x1), (3, .int (x3 + 1)), (4, .int x4), (5, .int v4)] ⟨rfl, ⟨rfl, ⟨rfl, ⟨rfl, ⟨rfl, trivial⟩⟩⟩⟩⟩ rfl (zt_X13_typeTable_p77 hL  h)
          · skip
            refine kz_iload (M := kt_M586) kX13_typeTable_c3.2.2.2.2.2.2.1 rfl ?_
            refine kz_iload_n (M := kt_M586) kX13_typeTable_c3.2.2.2.2.2.2.2.1 rfl ?_
            refine kz_icmp_eq (M := kt_M586) kX13_typeTable_c4.1 (t := 77) rfl h (fun h => ?_) (fun h => ?_)
            · skip
              exact kz_weak [(0, .ref (w_adr E.2.1 12 0)), (1, .int x1), (3, .int (x3 + 1)), (4, .int x4), (5, .int v4)] ⟨rfl, ⟨rfl, ⟨rfl, ⟨rfl, ⟨rfl, trivial⟩⟩⟩⟩⟩ rfl (zt_X13_typeTable_p77 hL  h)
            · skip
              exact kz_weak [(0, .ref (w_adr E.2.1 12 0)), (1, .int x1), (2, .int x2), (3, .int (x3 + 1)), (4, .int x4)] ⟨rfl, ⟨rfl, ⟨rfl, ⟨rfl, ⟨rfl, trivial⟩⟩⟩⟩⟩ rfl (zt_X13_typeTable_p62 hL  h)
    · skip
      refine kz_goto (M := kt_M586) kX13_typeTable_c2.2.2.2.1 (t := 80) rfl ?_
      exact kz_weak [(0, .ref (w_adr E.2.1 12 0)), (1, .int x1), (2, .int x2), (3, .int (x3 + 1)), (4, .int x4)] ⟨rfl, ⟨rfl, ⟨rfl, ⟨rfl, ⟨rfl, trivial⟩⟩⟩⟩⟩ rfl (zt_X13_typeTable_p80 hL  h)
def zb_X13_typeTable_p0 (E : zE) (L : Nat) (Q : kx_Rs → wS → Prop) (x1 : Int32) (w : wS) : Prop := (kx_inb x1 (w_n w 12 0 28) = true ∧ zL_X13_typeTable_p12 E L Q x1 (-1) 0 (w_a w 12 0 28 (x1).toNatClampNeg) w)
theorem zt_X13_typeTable_p0 {E : zE} {L : Nat} {Q : kx_Rs → wS → Prop} {x1 : Int32} {w : wS} (hL : 23 ≤ L) (h : zb_X13_typeTable_p0 E L Q x1 w) : kzE E L kt_M586 0 [(0, .ref (w_adr E.2.1 12 0)), (1, .int x1)] [] w Q := by
  unfold zb_X13_typeTable_p0 at h
  refine kz_ic (M := kt_M586) (-1) kX13_typeTable_c0.1 rfl ?_
  refine kz_sti_n (M := kt_M586) [(0, .ref (w_adr E.2.1 12 0)), (1, .int x1)] kX13_typeTable_c0.2.1 (Nat.le_of_ble_eq_true rfl) ⟨⟨rfl, rfl, .inl rfl⟩, ⟨⟨rfl, rfl, .inr rfl⟩, trivial⟩⟩ rfl ?_
  refine kz_ic (M := kt_M586) 0 kX13_typeTable_c0.2.2.1 rfl ?_
  refine kz_sti_n (M := kt_M586) [(0, .ref (w_adr E.2.1 12 0)), (1, .int x1), (2, .int (-1))] kX13_typeTable_c0.2.2.2.1 (Nat.le_of_ble_eq_true rfl) ⟨⟨rfl, rfl, .inl rfl⟩, ⟨⟨rfl, rfl, .inl rfl⟩, ⟨⟨rfl, rfl, .inr rfl⟩, trivial⟩⟩⟩ rfl ?_
  refine kz_aload_n (M := kt_M586) kX13_typeTable_c0.2.2.2.2.1 rfl ?_
  refine kz_gfc (M := kt_M586) (x := 4100) (c := 12) (o := 0) kX13_typeTable_c0.2.2.2.2.2.1 wf_X13_193 (.inl rfl) ?_
  refine kz_iload_n (M := kt_M586) kX13_typeTable_c0.2.2.2.2.2.2.1 rfl ?_
  refine kz_iald (M := kt_M586) (c := 12) (o := 0) (k := 28) (a := (E.2.1 4100)) kX13_typeTable_c0.2.2.2.2.2.2.2.1 ow_12_0_28 oa_12_0_28 ot_0 h (fun h => ?_)
  refine kz_sti (M := kt_M586) [(0, .ref (w_adr E.2.1 12 0)), (1, .int x1), (2, .int (-1)), (3, .int 0)] kX13_typeTable_c1.1 (Nat.le_of_ble_eq_true rfl) ⟨⟨rfl, rfl, .inl rfl⟩, ⟨⟨rfl, rfl, .inl rfl⟩, ⟨⟨rfl, rfl, .inl rfl⟩, ⟨⟨rfl, rfl, .inr rfl⟩, trivial⟩⟩⟩⟩ rfl ?_
  exact kz_weak [(0, .ref (w_adr E.2.1 12 0)), (1, .int x1), (2, .int (-1)), (3, .int 0), (4, .int (w_a w 12 0 28 (x1).toNatClampNeg))] ⟨rfl, ⟨rfl, ⟨rfl, ⟨rfl, ⟨rfl, trivial⟩⟩⟩⟩⟩ rfl h
def zb_X13_typeMonadic_p61 (E : zE) (L : Nat) (Q : kx_Rs → wS → Prop) (x1 : Int32) (y0 : Int32) (w : wS) : Prop := (kx_inb x1 (w_n w 12 0 28) = true ∧ zw E (L - 23) kt_M602 [.ref (w_adr E.2.1 12 0), .int (w_a w 12 0 28 (x1).toNatClampNeg), .int y0] w (wk0 (fun w1 => wle w w1 → zw E (L - 22) kt_M435 [.ref (w_adr E.2.1 12 0), .int y0, .int (-1)] w1 (wk1 (fun v4 w3 => wle w1 w3 → Q (.inl (some (.int v4))) w3) (fun e w => Q (.inr e) w))) (fun e w => Q (.inr e) w)))
theorem zt_X13_typeMonadic_p61 {E : zE} {L : Nat} {Q : kx_Rs → wS → Prop} {x1 : Int32} {y0 : Int32} {w : wS} (hL : 23 ≤ L) (h : zb_X13_typeMonadic_p61 E L Q x1 y0 w) : kzE E L kt_M581 61 [(0, .ref (w_adr E.2.1 12 0)), (1, .int x1)] [.int y0] w Q := by
  unfold zb_X13_typeMonadic_p61 at h
  refine kz_sti_n (M := kt_M581) [(0, .ref (w_adr E.2.1 12 0)), (1, .int x1)] kX13_typeMonadic_c4.2.2.2.2.2.1 (Nat.le_of_ble_eq_true rfl) ⟨⟨rfl, rfl, .inl rfl⟩, ⟨⟨rfl, rfl, .inl rfl⟩, trivial⟩⟩ rfl ?_
  refine kz_aload_n (M := kt_M581) kX13_typeMonadic_c4.2.2.2.2.2.2.1 rfl ?_
  refine kz_aload_n (M := kt_M581) kX13_typeMonadic_c4.2.2.2.2.2.2.2.1 rfl ?_
  refine kz_gfc (M := kt_M581) (x := 4100) (c := 12) (o := 0) kX13_typeMonadic_c5.1 wf_X13_193 (.inl rfl) ?_
  refine kz_iload_n (M := kt_M581) kX13_typeMonadic_c5.2.1 rfl ?_
  refine kz_iald (M := kt_M581) (c := 12) (o := 0) (k := 28) (a := (E.2.1 4100)) kX13_typeMonadic_c5.2.2.1 ow_12_0_28 oa_12_0_28 ot_0 h (fun h => ?_)
  refine kz_iload_n (M := kt_M581) kX13_typeMonadic_c5.2.2.2.1 rfl ?_
  refine kz_cv0 (M := kt_M581) (c := 12) (o := 0) (As := [.int (w_a w 12 0 28 (x1).toNatClampNeg), .int y0]) (rest := []) kX13_typeMonadic_c5.2.2.2.2.1 wl_X13_880 wMv_602 rfl (.inl rfl) rfl (Nat.le_trans (Nat.le_of_ble_eq_true rfl) hL) (Nat.le_of_ble_eq_true rfl) (Nat.le_of_ble_eq_true rfl) h (fun w1 hle h => ?_) (fun _ _ _ h => kzx_no rfl h)
  have h := h hle
  refine kz_aload_n (M := kt_M581) kX13_typeMonadic_c5.2.2.2.2.2.1 rfl ?_
  refine kz_iload_n (M := kt_M581) kX13_typeMonadic_c5.2.2.2.2.2.2.1 rfl ?_
  refine kz_ic (M := kt_M581) (-1) kX13_typeMonadic_c5.2.2.2.2.2.2.2.1 rfl ?_
  refine kz_cv1 (M := kt_M581) (c := 12) (o := 0) (As := [.int y0, .int (-1)]) (rest := []) kX13_typeMonadic_c6.1 wl_X13_865 wMv_435 rfl (.inl rfl) rfl (Nat.le_trans (Nat.le_of_ble_eq_true rfl) hL) (Nat.le_of_ble_eq_true rfl) (Nat.le_of_ble_eq_true rfl) h (fun v4 w3 hle h => ?_) (fun _ _ _ h => kzx_no rfl h)
  have h := h hle
  exact kz_iret (M := kt_M581) kX13_typeMonadic_c6.2.1 rfl rfl h
def zb_X13_typeMonadic_p43 (E : zE) (L : Nat) (Q : kx_Rs → wS → Prop) (w : wS) : Prop := zw E (L - 22) kt_M435 [.ref (w_adr E.2.1 12 0), .int 0, .int (-1)] w (wk1 (fun v2 w1 => wle w w1 → Q (.inl (some (.int v2))) w1) (fun e w => Q (.inr e) w))
theorem zt_X13_typeMonadic_p43 {E : zE} {L : Nat} {Q : kx_Rs → wS → Prop} {w : wS} (hL : 23 ≤ L) (h : zb_X13_typeMonadic_p43 E L Q  w) : kzE E L kt_M581 43 [(0, .ref (w_adr E.2.1 12 0))] [] w Q := by
  unfold zb_X13_typeMonadic_p43 at h
  refine kz_aload_n (M := kt_M581) kX13_typeMonadic_c3.2.2.1 rfl ?_
  refine kz_ic (M := kt_M581) 0 kX13_typeMonadic_c3.2.2.2.1 rfl ?_
  refine kz_ic (M := kt_M581) (-1) kX13_typeMonadic_c3.2.2.2.2.1 rfl ?_
  refine kz_cv1 (M := kt_M581) (c := 12) (o := 0) (As := [.int 0, .int (-1)]) (rest := []) kX13_typeMonadic_c3.2.2.2.2.2.1 wl_X13_865 wMv_435 rfl (.inl rfl) rfl (Nat.le_trans (Nat.le_of_ble_eq_true rfl) hL) (Nat.le_of_ble_eq_true rfl) (Nat.le_of_ble_eq_true rfl) h (fun v2 w1 hle h => ?_) (fun _ _ _ h => kzx_no rfl h)
  have h := h hle
  exact kz_iret (M := kt_M581) kX13_typeMonadic_c3.2.2.2.2.2.2.1 rfl rfl h
def zb_X13_typeMonadic_p0 (E : zE) (L : Nat) (Q : kx_Rs → wS → Prop) (x1 : Int32) (w : wS) : Prop := (kx_inb x1 (w_n w 12 0 29) = true ∧ (if ¬ w_a w 12 0 29 (x1).toNatClampNeg = 27 then (if ¬ w_a w 12 0 29 (x1).toNatClampNeg = 17 then zb_X13_typeMonadic_p61 E L Q x1 0 w else zb_X13_typeMonadic_p61 E L Q x1 2 w) else (kx_inb x1 (w_n w 12 0 28) = true ∧ zw E (L - 23) kt_M576 [.ref (w_adr E.2.1 12 0), .int (w_a w 12 0 28 (x1).toNatClampNeg)] w (wk1 (fun v2 w1 => wle w w1 → (if v2 = (-1) then zb_X13_typeMonadic_p43 E L Q w1 else (if ¬ w_i w1 12 0 73 = (-1) then zb_X13_typeMonadic_p43 E L Q w1 else zw E (L - 21) kt_M357 [.ref (w_adr E.2.1 12 0), .int x1] w1 (wk1 (fun v4 w3 => wle w1 w3 → Q (.inl (some (.int v4))) w3) (fun e w => Q (.inr e) w))))) (fun e w => Q (.inr e) w)))))
theorem zt_X13_typeMonadic_p0 {E : zE} {L : Nat} {Q : kx_Rs → wS → Prop} {x1 : Int32} {w : wS} (hL : 23 ≤ L) (h : zb_X13_typeMonadic_p0 E L Q x1 w) : kzE E L kt_M581 0 [(0, .ref (w_adr E.2.1 12 0)), (1, .int x1)] [] w Q := by
  unfold zb_X13_typeMonadic_p0 at h
  refine kz_aload_n (M := kt_M581) kX13_typeMonadic_c0.1 rfl ?_
  refine kz_gfc (M := kt_M581) (x := 4101) (c := 12) (o := 0) kX13_typeMonadic_c0.2.1 wf_X13_196 (.inl rfl) ?_
  refine kz_iload_n (M := kt_M581) kX13_typeMonadic_c0.2.2.1 rfl ?_
  refine kz_iald (M := kt_M581) (c := 12) (o := 0) (k := 29) (a := (E.2.1 4101)) kX13_typeMonadic_c0.2.2.2.1 ow_12_0_29 oa_12_0_29 ot_0 h (fun h => ?_)
  refine kz_sti_n (M := kt_M581) [(0, .ref (w_adr E.2.1 12 0)), (1, .int x1)] kX13_typeMonadic_c0.2.2.2.2.1 (Nat.le_of_ble_eq_true rfl) ⟨⟨rfl, rfl, .inl rfl⟩, ⟨⟨rfl, rfl, .inr rfl⟩, trivial⟩⟩ rfl ?_
  refine kz_iload_n (M := kt_M581) kX13_typeMonadic_c0.2.2.2.2.2.1 rfl ?_
  refine kz_bi (M := kt_M581) 27 kX13_typeMonadic_c0.2.2.2.2.2.2.1 rfl ?_
  refine kz_icmp_ne (M := kt_M581) kX13_typeMonadic_c0.2.2.2.2.2.2.2.1 (t := 50) rfl h (fun h => ?_) (fun h => ?_)
  · skip
    refine kz_iload_n (M := kt_M581) kX13_typeMonadic_c3.2.2.2.2.2.2.2.1 rfl ?_
    refine kz_bi (M := kt_M581) 17 kX13_typeMonadic_c4.1 rfl ?_
    refine kz_icmp_ne (M := kt_M581) kX13_typeMonadic_c4.2.1 (t := 60) rfl h (fun h => ?_) (fun h => ?_)
    · skip
      refine kz_ic (M := kt_M581) 0 kX13_typeMonadic_c4.2.2.2.2.1 rfl ?_
      exact kz_weak [(0, .ref (w_adr E.2.1 12 0)), (1, .int x1)] ⟨rfl, ⟨rfl, trivial⟩⟩ rfl (zt_X13_typeMonadic_p61 hL  h)
    · skip
      refine kz_ic (M := kt_M581) 2 kX13_typeMonadic_c4.2.2.1 rfl ?_
      refine kz_goto (M := kt_M581) kX13_typeMonadic_c4.2.2.2.1 (t := 61) rfl ?_
      exact kz_weak [(0, .ref (w_adr E.2.1 12 0)), (1, .int x1)] ⟨rfl, ⟨rfl, trivial⟩⟩ rfl (zt_X13_typeMonadic_p61 hL  h)
  · skip
    refine kz_aload_n (M := kt_M581) kX13_typeMonadic_c1.1 rfl ?_
    refine kz_aload_n (M := kt_M581) kX13_typeMonadic_c1.2.1 rfl ?_
    refine kz_gfc (M := kt_M581) (x := 4100) (c := 12) (o := 0) kX13_typeMonadic_c1.2.2.1 wf_X13_193 (.inl rfl) ?_
    refine kz_iload_n (M := kt_M581) kX13_typeMonadic_c1.2.2.2.1 rfl ?_
    refine kz_iald (M := kt_M581) (c := 12) (o := 0) (k := 28) (a := (E.2.1 4100)) kX13_typeMonadic_c1.2.2.2.2.1 ow_12_0_28 oa_12_0_28 ot_0 h (fun h => ?_)
    refine kz_cv1 (M := kt_M581) (c := 12) (o := 0) (As := [.int (w_a w 12 0 28 (x1).toNatClampNeg)]) (rest := []) kX13_typeMonadic_c1.2.2.2.2.2.1 wl_X13_853 wMv_576 rfl (.inl rfl) rfl (Nat.le_trans (Nat.le_of_ble_eq_true rfl) hL) (Nat.le_of_ble_eq_true rfl) (Nat.le_of_ble_eq_true rfl) h (fun v2 w1 hle h => ?_) (fun _ _ _ h => kzx_no rfl h)
    have h := h hle
    refine kz_sti_n (M := kt_M581) [(0, .ref (w_adr E.2.1 12 0)), (1, .int x1)] kX13_typeMonadic_c1.2.2.2.2.2.2.1 (Nat.le_of_ble_eq_true rfl) ⟨⟨rfl, rfl, .inl rfl⟩, ⟨⟨rfl, rfl, .inl rfl⟩, trivial⟩⟩ rfl ?_
    refine kz_iload_n (M := kt_M581) kX13_typeMonadic_c1.2.2.2.2.2.2.2.1 rfl ?_
    refine kz_ic (M := kt_M581) (-1) kX13_typeMonadic_c2.1 rfl ?_
    refine kz_icmp_eq (M := kt_M581) kX13_typeMonadic_c2.2.1 (t := 43) rfl h (fun h => ?_) (fun h => ?_)
    · skip
      exact kz_weak [(0, .ref (w_adr E.2.1 12 0))] ⟨rfl, trivial⟩ rfl (zt_X13_typeMonadic_p43 hL  h)
    · skip
      refine kz_aload_n (M := kt_M581) kX13_typeMonadic_c2.2.2.1 rfl ?_
      refine kz_gfi (M := kt_M581) (c := 12) (o := 0) kX13_typeMonadic_c2.2.2.2.1 wf_X13_859 (.inl rfl) ?_
      refine kz_ic (M := kt_M581) (-1) kX13_typeMonadic_c2.2.2.2.2.1 rfl ?_
      refine kz_icmp_ne (M := kt_M581) kX13_typeMonadic_c2.2.2.2.2.2.1 (t := 43) rfl h (fun h => ?_) (fun h => ?_)
      · skip
        exact kz_weak [(0, .ref (w_adr E.2.1 12 0))] ⟨rfl, trivial⟩ rfl (zt_X13_typeMonadic_p43 hL  h)
      · skip
        refine kz_aload_n (M := kt_M581) kX13_typeMonadic_c2.2.2.2.2.2.2.1 rfl ?_
        refine kz_iload_n (M := kt_M581) kX13_typeMonadic_c2.2.2.2.2.2.2.2.1 rfl ?_
        refine kz_cv1 (M := kt_M581) (c := 12) (o := 0) (As := [.int x1]) (rest := []) kX13_typeMonadic_c3.1 wl_X13_868 wMv_357 rfl (.inl rfl) rfl (Nat.le_trans (Nat.le_of_ble_eq_true rfl) hL) (Nat.le_of_ble_eq_true rfl) (Nat.le_of_ble_eq_true rfl) h (fun v4 w3 hle h => ?_) (fun _ _ _ h => kzx_no rfl h)
        have h := h hle
        exact kz_iret (M := kt_M581) kX13_typeMonadic_c3.2.1 rfl rfl h
def zb_X13_wantScalar_p40 (E : zE) (L : Nat) (Q : kx_Rs → wS → Prop) (w : wS) : Prop := Q (.inl none) w
theorem zt_X13_wantScalar_p40 {E : zE} {L : Nat} {Q : kx_Rs → wS → Prop} {w : wS} (hL : 23 ≤ L) (h : zb_X13_wantScalar_p40 E L Q  w) : kzE E L kt_M602 40 [(0, .ref (w_adr E.2.1 12 0))] [] w Q := by
  unfold zb_X13_wantScalar_p40 at h
  exact kz_ret (M := kt_M602) kX13_wantScalar_c2.2.2.2.2.2.2.2.1 rfl h
def zb_X13_wantScalar_p28 (E : zE) (L : Nat) (Q : kx_Rs → wS → Prop) (x1 : Int32) (w : wS) : Prop := (kx_inb x1 (w_n w 12 0 27) = true ∧ zw E (L - 22) kt_M560 [.ref (w_adr E.2.1 12 0), .int 7, .int (w_a w 12 0 27 (x1).toNatClampNeg)] w (wk0 (fun w1 => wle w w1 → zb_X13_wantScalar_p40 E L Q w1) (fun e w => Q (.inr e) w)))
theorem zt_X13_wantScalar_p28 {E : zE} {L : Nat} {Q : kx_Rs → wS → Prop} {x1 : Int32} {w : wS} (hL : 23 ≤ L) (h : zb_X13_wantScalar_p28 E L Q x1 w) : kzE E L kt_M602 28 [(0, .ref (w_adr E.2.1 12 0)), (1, .int x1)] [] w Q := by
  unfold zb_X13_wantScalar_p28 at h
  refine kz_aload_n (M := kt_M602) kX13_wantScalar_c2.1 rfl ?_
  refine kz_bi (M := kt_M602) 7 kX13_wantScalar_c2.2.1 rfl ?_
  refine kz_aload_n (M := kt_M602) kX13_wantScalar_c2.2.2.1 rfl ?_
  refine kz_gfc (M := kt_M602) (x := 4099) (c := 12) (o := 0) kX13_wantScalar_c2.2.2.2.1 wf_X13_190 (.inl rfl) ?_
  refine kz_iload_n (M := kt_M602) kX13_wantScalar_c2.2.2.2.2.1 rfl ?_
  refine kz_iald (M := kt_M602) (c := 12) (o := 0) (k := 27) (a := (E.2.1 4099)) kX13_wantScalar_c2.2.2.2.2.2.1 ow_12_0_27 oa_12_0_27 ot_0 h (fun h => ?_)
  refine kz_cv0 (M := kt_M602) (c := 12) (o := 0) (As := [.int 7, .int (w_a w 12 0 27 (x1).toNatClampNeg)]) (rest := []) kX13_wantScalar_c2.2.2.2.2.2.2.1 wl_X13_734 wMv_560 rfl (.inl rfl) rfl (Nat.le_trans (Nat.le_of_ble_eq_true rfl) hL) (Nat.le_of_ble_eq_true rfl) (Nat.le_of_ble_eq_true rfl) h (fun w1 hle h => ?_) (fun _ _ _ h => kzx_no rfl h)
  have h := h hle
  exact kz_weak [(0, .ref (w_adr E.2.1 12 0))] ⟨rfl, trivial⟩ rfl (zt_X13_wantScalar_p40 hL  h)
def zb_X13_wantScalar_p0 (E : zE) (L : Nat) (Q : kx_Rs → wS → Prop) (x1 : Int32) (x2 : Int32) (w : wS) : Prop := zw E (L - 23) kt_M576 [.ref (w_adr E.2.1 12 0), .int x1] w (wk1 (fun v2 w1 => wle w w1 → zw E (L - 22) kt_M412 [.ref (w_adr E.2.1 12 0), .int v2, .int x2] w1 (wk1 (fun v4 w3 => wle w1 w3 → (if v4 = 0 then zb_X13_wantScalar_p28 E L Q x1 w3 else (if v2 = (-1) then zb_X13_wantScalar_p40 E L Q w3 else (if w_i w3 12 0 73 = (-1) then zb_X13_wantScalar_p40 E L Q w3 else zb_X13_wantScalar_p28 E L Q x1 w3)))) (fun e w => Q (.inr e) w))) (fun e w => Q (.inr e) w))
theorem zt_X13_wantScalar_p0 {E : zE} {L : Nat} {Q : kx_Rs → wS → Prop} {x1 : Int32} {x2 : Int32} {w : wS} (hL : 23 ≤ L) (h : zb_X13_wantScalar_p0 E L Q x1 x2 w) : kzE E L kt_M602 0 [(0, .ref (w_adr E.2.1 12 0)), (1, .int x1), (2, .int x2)] [] w Q := by
  unfold zb_X13_wantScalar_p0 at h
  refine kz_aload_n (M := kt_M602) kX13_wantScalar_c0.1 rfl ?_
  refine kz_iload_n (M := kt_M602) kX13_wantScalar_c0.2.1 rfl ?_
  refine kz_cv1 (M := kt_M602) (c := 12) (o := 0) (As := [.int x1]) (rest := []) kX13_wantScalar_c0.2.2.1 wl_X13_853 wMv_576 rfl (.inl rfl) rfl (Nat.le_trans (Nat.le_of_ble_eq_true rfl) hL) (Nat.le_of_ble_eq_true rfl) (Nat.le_of_ble_eq_true rfl) h (fun v2 w1 hle h => ?_) (fun _ _ _ h => kzx_no rfl h)
  have h := h hle
  refine kz_sti_n (M := kt_M602) [(0, .ref (w_adr E.2.1 12 0)), (1, .int x1), (2, .int x2)] kX13_wantScalar_c0.2.2.2.1 (Nat.le_of_ble_eq_true rfl) ⟨⟨rfl, rfl, .inl rfl⟩, ⟨⟨rfl, rfl, .inl rfl⟩, ⟨⟨rfl, rfl, .inr rfl⟩, trivial⟩⟩⟩ rfl ?_
  refine kz_aload_n (M := kt_M602) kX13_wantScalar_c0.2.2.2.2.1 rfl ?_
  refine kz_iload_n (M := kt_M602) kX13_wantScalar_c0.2.2.2.2.2.1 rfl ?_
  refine kz_iload_n (M := kt_M602) kX13_wantScalar_c0.2.2.2.2.2.2.1 rfl ?_
  refine kz_cv1 (M := kt_M602) (c := 12) (o := 0) (As := [.int v2, .int x2]) (rest := []) kX13_wantScalar_c0.2.2.2.2.2.2.2.1 wl_X13_856 wMv_412 rfl (.inl rfl) rfl (Nat.le_trans (Nat.le_of_ble_eq_true rfl) hL) (Nat.le_of_ble_eq_true rfl) (Nat.le_of_ble_eq_true rfl) h (fun v4 w3 hle h => ?_) (fun _ _ _ h => kzx_no rfl h)
  have h := h hle
  refine kz_if_eq (M := kt_M602) kX13_wantScalar_c1.1 (t := 28) rfl h (fun h => ?_) (fun h => ?_)
  · skip
    exact kz_weak [(0, .ref (w_adr E.2.1 12 0)), (1, .int x1)] ⟨rfl, ⟨rfl, trivial⟩⟩ rfl (zt_X13_wantScalar_p28 hL  h)
  · skip
    refine kz_iload_n (M := kt_M602) kX13_wantScalar_c1.2.1 rfl ?_
    refine kz_ic (M := kt_M602) (-1) kX13_wantScalar_c1.2.2.1 rfl ?_
    refine kz_icmp_eq (M := kt_M602) kX13_wantScalar_c1.2.2.2.1 (t := 40) rfl h (fun h => ?_) (fun h => ?_)
    · skip
      exact kz_weak [(0, .ref (w_adr E.2.1 12 0))] ⟨rfl, trivial⟩ rfl (zt_X13_wantScalar_p40 hL  h)
    · skip
      refine kz_aload_n (M := kt_M602) kX13_wantScalar_c1.2.2.2.2.1 rfl ?_
      refine kz_gfi (M := kt_M602) (c := 12) (o := 0) kX13_wantScalar_c1.2.2.2.2.2.1 wf_X13_859 (.inl rfl) ?_
      refine kz_ic (M := kt_M602) (-1) kX13_wantScalar_c1.2.2.2.2.2.2.1 rfl ?_
      refine kz_icmp_eq (M := kt_M602) kX13_wantScalar_c1.2.2.2.2.2.2.2.1 (t := 40) rfl h (fun h => ?_) (fun h => ?_)
      · skip
        exact kz_weak [(0, .ref (w_adr E.2.1 12 0))] ⟨rfl, trivial⟩ rfl (zt_X13_wantScalar_p40 hL  h)
      · skip
        exact kz_weak [(0, .ref (w_adr E.2.1 12 0)), (1, .int x1)] ⟨rfl, ⟨rfl, trivial⟩⟩ rfl (zt_X13_wantScalar_p28 hL  h)
def zb_X13_fits_p15 (E : zE) (L : Nat) (Q : kx_Rs → wS → Prop) (y0 : Int32) (w : wS) : Prop := ((y0 = 0 ∨ y0 = 1) ∧ Q (.inl (some (.int y0))) w)
theorem zt_X13_fits_p15 {E : zE} {L : Nat} {Q : kx_Rs → wS → Prop} {y0 : Int32} {w : wS} (hL : 19 ≤ L) (h : zb_X13_fits_p15 E L Q y0 w) : kzE E L kt_M412 15 [(0, .ref (w_adr E.2.1 12 0))] [.int y0] w Q := by
  unfold zb_X13_fits_p15 at h
  exact kz_iretz (M := kt_M412) kX13_fits_c1.2.1 rfl h.1 h.2
def zb_X13_fits_p10 (E : zE) (L : Nat) (Q : kx_Rs → wS → Prop) (w : wS) : Prop := zb_X13_fits_p15 E L Q 1 w
theorem zt_X13_fits_p10 {E : zE} {L : Nat} {Q : kx_Rs → wS → Prop} {w : wS} (hL : 19 ≤ L) (h : zb_X13_fits_p10 E L Q  w) : kzE E L kt_M412 10 [(0, .ref (w_adr E.2.1 12 0))] [] w Q := by
  unfold zb_X13_fits_p10 at h
  refine kz_ic (M := kt_M412) 1 kX13_fits_c0.2.2.2.2.2.2.1 rfl ?_
  refine kz_goto (M := kt_M412) kX13_fits_c0.2.2.2.2.2.2.2.1 (t := 15) rfl ?_
  exact kz_weak [(0, .ref (w_adr E.2.1 12 0))] ⟨rfl, trivial⟩ rfl (zt_X13_fits_p15 hL  h)
def zb_X13_fits_p0 (E : zE) (L : Nat) (Q : kx_Rs → wS → Prop) (x1 : Int32) (x2 : Int32) (w : wS) : Prop := (if x1 = (-1) then zb_X13_fits_p10 E L Q w else (if ¬ x1 = x2 then zb_X13_fits_p15 E L Q 0 w else zb_X13_fits_p10 E L Q w))
theorem zt_X13_fits_p0 {E : zE} {L : Nat} {Q : kx_Rs → wS → Prop} {x1 : Int32} {x2 : Int32} {w : wS} (hL : 19 ≤ L) (h : zb_X13_fits_p0 E L Q x1 x2 w) : kzE E L kt_M412 0 [(0, .ref (w_adr E.2.1 12 0)), (1, .int x1), (2, .int x2)] [] w Q := by
  unfold zb_X13_fits_p0 at h
  refine kz_iload_n (M := kt_M412) kX13_fits_c0.1 rfl ?_
  refine kz_ic (M := kt_M412) (-1) kX13_fits_c0.2.1 rfl ?_
  refine kz_icmp_eq (M := kt_M412) kX13_fits_c0.2.2.1 (t := 10) rfl h (fun h => ?_) (fun h => ?_)
  · skip
    exact kz_weak [(0, .ref (w_adr E.2.1 12 0))] ⟨rfl, trivial⟩ rfl (zt_X13_fits_p10 hL  h)
  · skip
    refine kz_iload_n (M := kt_M412) kX13_fits_c0.2.2.2.1 rfl ?_
    refine kz_iload_n (M := kt_M412) kX13_fits_c0.2.2.2.2.1 rfl ?_
    refine kz_icmp_ne (M := kt_M412) kX13_fits_c0.2.2.2.2.2.1 (t := 14) rfl h (fun h => ?_) (fun h => ?_)
    · skip
      refine kz_ic (M := kt_M412) 0 kX13_fits_c1.1 rfl ?_
      exact kz_weak [(0, .ref (w_adr E.2.1 12 0))] ⟨rfl, trivial⟩ rfl (zt_X13_fits_p15 hL  h)
    · skip
      exact kz_weak [(0, .ref (w_adr E.2.1 12 0))] ⟨rfl, trivial⟩ rfl (zt_X13_fits_p10 hL  h)
def zb_X13_typeBinary_p245 (E : zE) (L : Nat) (Q : kx_Rs → wS → Prop) (w : wS) : Prop := zw E (L - 22) kt_M435 [.ref (w_adr E.2.1 12 0), .int 2, .int (-1)] w (wk1 (fun v2 w1 => wle w w1 → Q (.inl (some (.int v2))) w1) (fun e w => Q (.inr e) w))
theorem zt_X13_typeBinary_p245 {E : zE} {L : Nat} {Q : kx_Rs → wS → Prop} {w : wS} (hL : 23 ≤ L) (h : zb_X13_typeBinary_p245 E L Q  w) : kzE E L kt_M570 245 [(0, .ref (w_adr E.2.1 12 0))] [] w Q := by
  unfold zb_X13_typeBinary_p245 at h
  refine kz_aload_n (M := kt_M570) kX13_typeBinary_c16.2.2.2.2.1 rfl ?_
  refine kz_ic (M := kt_M570) 2 kX13_typeBinary_c16.2.2.2.2.2.1 rfl ?_
  refine kz_ic (M := kt_M570) (-1) kX13_typeBinary_c16.2.2.2.2.2.2.1 rfl ?_
  refine kz_cv1 (M := kt_M570) (c := 12) (o := 0) (As := [.int 2, .int (-1)]) (rest := []) kX13_typeBinary_c16.2.2.2.2.2.2.2.1 wl_X13_865 wMv_435 rfl (.inl rfl) rfl (Nat.le_trans (Nat.le_of_ble_eq_true rfl) hL) (Nat.le_of_ble_eq_true rfl) (Nat.le_of_ble_eq_true rfl) h (fun v2 w1 hle h => ?_) (fun _ _ _ h => kzx_no rfl h)
  have h := h hle
  exact kz_iret (M := kt_M570) kX13_typeBinary_c17.1 rfl rfl h
def zb_X13_typeBinary_p226 (E : zE) (L : Nat) (Q : kx_Rs → wS → Prop) (x1 : Int32) (y0 : Int32) (w : wS) : Prop := (if ¬ y0 = 0 then zb_X13_typeBinary_p245 E L Q w else (kx_inb x1 (w_n w 12 0 27) = true ∧ zw E (L - 22) kt_M560 [.ref (w_adr E.2.1 12 0), .int 7, .int (w_a w 12 0 27 (x1).toNatClampNeg)] w (wk0 (fun w1 => wle w w1 → zb_X13_typeBinary_p245 E L Q w1) (fun e w => Q (.inr e) w))))
theorem zt_X13_typeBinary_p226 {E : zE} {L : Nat} {Q : kx_Rs → wS → Prop} {x1 : Int32} {y0 : Int32} {w : wS} (hL : 23 ≤ L) (h : zb_X13_typeBinary_p226 E L Q x1 y0 w) : kzE E L kt_M570 226 [(0, .ref (w_adr E.2.1 12 0)), (1, .int x1)] [.int y0] w Q := by
  unfold zb_X13_typeBinary_p226 at h
  refine kz_sti (M := kt_M570) [(0, .ref (w_adr E.2.1 12 0)), (1, .int x1)] kX13_typeBinary_c15.2.2.1 (Nat.le_of_ble_eq_true rfl) ⟨⟨rfl, rfl, .inl rfl⟩, ⟨⟨rfl, rfl, .inl rfl⟩, trivial⟩⟩ rfl ?_
  refine kz_iload (M := kt_M570) kX13_typeBinary_c15.2.2.2.1 rfl ?_
  refine kz_if_ne (M := kt_M570) kX13_typeBinary_c15.2.2.2.2.1 (t := 245) rfl h (fun h => ?_) (fun h => ?_)
  · skip
    exact kz_weak [(0, .ref (w_adr E.2.1 12 0))] ⟨rfl, trivial⟩ rfl (zt_X13_typeBinary_p245 hL  h)
  · skip
    refine kz_aload_n (M := kt_M570) kX13_typeBinary_c15.2.2.2.2.2.1 rfl ?_
    refine kz_bi (M := kt_M570) 7 kX13_typeBinary_c15.2.2.2.2.2.2.1 rfl ?_
    refine kz_aload_n (M := kt_M570) kX13_typeBinary_c15.2.2.2.2.2.2.2.1 rfl ?_
    refine kz_gfc (M := kt_M570) (x := 4099) (c := 12) (o := 0) kX13_typeBinary_c16.1 wf_X13_190 (.inl rfl) ?_
    refine kz_iload_n (M := kt_M570) kX13_typeBinary_c16.2.1 rfl ?_
    refine kz_iald (M := kt_M570) (c := 12) (o := 0) (k := 27) (a := (E.2.1 4099)) kX13_typeBinary_c16.2.2.1 ow_12_0_27 oa_12_0_27 ot_0 h (fun h => ?_)
    refine kz_cv0 (M := kt_M570) (c := 12) (o := 0) (As := [.int 7, .int (w_a w 12 0 27 (x1).toNatClampNeg)]) (rest := []) kX13_typeBinary_c16.2.2.2.1 wl_X13_734 wMv_560 rfl (.inl rfl) rfl (Nat.le_trans (Nat.le_of_ble_eq_true rfl) hL) (Nat.le_of_ble_eq_true rfl) (Nat.le_of_ble_eq_true rfl) h (fun w1 hle h => ?_) (fun _ _ _ h => kzx_no rfl h)
    have h := h hle
    exact kz_weak [(0, .ref (w_adr E.2.1 12 0))] ⟨rfl, trivial⟩ rfl (zt_X13_typeBinary_p245 hL  h)
def zb_X13_typeBinary_p225 (E : zE) (L : Nat) (Q : kx_Rs → wS → Prop) (x1 : Int32) (w : wS) : Prop := zb_X13_typeBinary_p226 E L Q x1 0 w
theorem zt_X13_typeBinary_p225 {E : zE} {L : Nat} {Q : kx_Rs → wS → Prop} {x1 : Int32} {w : wS} (hL : 23 ≤ L) (h : zb_X13_typeBinary_p225 E L Q x1 w) : kzE E L kt_M570 225 [(0, .ref (w_adr E.2.1 12 0)), (1, .int x1)] [] w Q := by
  unfold zb_X13_typeBinary_p225 at h
  refine kz_ic (M := kt_M570) 0 kX13_typeBinary_c15.2.1 rfl ?_
  exact kz_weak [(0, .ref (w_adr E.2.1 12 0)), (1, .int x1)] ⟨rfl, ⟨rfl, trivial⟩⟩ rfl (zt_X13_typeBinary_p226 hL  h)
def zb_X13_typeBinary_p221 (E : zE) (L : Nat) (Q : kx_Rs → wS → Prop) (x1 : Int32) (w : wS) : Prop := zb_X13_typeBinary_p226 E L Q x1 1 w
theorem zt_X13_typeBinary_p221 {E : zE} {L : Nat} {Q : kx_Rs → wS → Prop} {x1 : Int32} {w : wS} (hL : 23 ≤ L) (h : zb_X13_typeBinary_p221 E L Q x1 w) : kzE E L kt_M570 221 [(0, .ref (w_adr E.2.1 12 0)), (1, .int x1)] [] w Q := by
  unfold zb_X13_typeBinary_p221 at h
  refine kz_ic (M := kt_M570) 1 kX13_typeBinary_c14.2.2.2.2.2.2.2.1 rfl ?_
  refine kz_goto (M := kt_M570) kX13_typeBinary_c15.1 (t := 226) rfl ?_
  exact kz_weak [(0, .ref (w_adr E.2.1 12 0)), (1, .int x1)] ⟨rfl, ⟨rfl, trivial⟩⟩ rfl (zt_X13_typeBinary_p226 hL  h)
def zb_X13_typeBinary_p197 (E : zE) (L : Nat) (Q : kx_Rs → wS → Prop) (x1 : Int32) (x4 : Int32) (x5 : Int32) (x6 : Int32) (y0 : Int32) (w : wS) : Prop := (if x5 = 0 then zb_X13_typeBinary_p225 E L Q x1 w else (if ¬ y0 = 0 then zb_X13_typeBinary_p221 E L Q x1 w else (if x4 = 2 then zb_X13_typeBinary_p225 E L Q x1 w else (if x6 = 2 then zb_X13_typeBinary_p225 E L Q x1 w else zb_X13_typeBinary_p221 E L Q x1 w))))
theorem zt_X13_typeBinary_p197 {E : zE} {L : Nat} {Q : kx_Rs → wS → Prop} {x1 : Int32} {x4 : Int32} {x5 : Int32} {x6 : Int32} {y0 : Int32} {w : wS} (hL : 23 ≤ L) (h : zb_X13_typeBinary_p197 E L Q x1 x4 x5 x6 y0 w) : kzE E L kt_M570 197 [(0, .ref (w_adr E.2.1 12 0)), (1, .int x1), (4, .int x4), (5, .int x5), (6, .int x6)] [.int y0] w Q := by
  unfold zb_X13_typeBinary_p197 at h
  refine kz_sti (M := kt_M570) [(0, .ref (w_adr E.2.1 12 0)), (1, .int x1), (4, .int x4), (5, .int x5), (6, .int x6)] kX13_typeBinary_c13.2.2.2.2.1 (Nat.le_of_ble_eq_true rfl) ⟨⟨rfl, rfl, .inl rfl⟩, ⟨⟨rfl, rfl, .inl rfl⟩, ⟨⟨rfl, rfl, .inl rfl⟩, ⟨⟨rfl, rfl, .inl rfl⟩, ⟨⟨rfl, rfl, .inr rfl⟩, trivial⟩⟩⟩⟩⟩ rfl ?_
  refine kz_iload (M := kt_M570) kX13_typeBinary_c13.2.2.2.2.2.1 rfl ?_
  refine kz_if_eq (M := kt_M570) kX13_typeBinary_c13.2.2.2.2.2.2.1 (t := 225) rfl h (fun h => ?_) (fun h => ?_)
  · skip
    exact kz_weak [(0, .ref (w_adr E.2.1 12 0)), (1, .int x1)] ⟨rfl, ⟨rfl, trivial⟩⟩ rfl (zt_X13_typeBinary_p225 hL  h)
  · skip
    refine kz_iload (M := kt_M570) kX13_typeBinary_c13.2.2.2.2.2.2.2.1 rfl ?_
    refine kz_if_ne (M := kt_M570) kX13_typeBinary_c14.1 (t := 221) rfl h (fun h => ?_) (fun h => ?_)
    · skip
      exact kz_weak [(0, .ref (w_adr E.2.1 12 0)), (1, .int x1)] ⟨rfl, ⟨rfl, trivial⟩⟩ rfl (zt_X13_typeBinary_p221 hL  h)
    · skip
      refine kz_iload (M := kt_M570) kX13_typeBinary_c14.2.1 rfl ?_
      refine kz_ic (M := kt_M570) 2 kX13_typeBinary_c14.2.2.1 rfl ?_
      refine kz_icmp_eq (M := kt_M570) kX13_typeBinary_c14.2.2.2.1 (t := 225) rfl h (fun h => ?_) (fun h => ?_)
      · skip
        exact kz_weak [(0, .ref (w_adr E.2.1 12 0)), (1, .int x1)] ⟨rfl, ⟨rfl, trivial⟩⟩ rfl (zt_X13_typeBinary_p225 hL  h)
      · skip
        refine kz_iload (M := kt_M570) kX13_typeBinary_c14.2.2.2.2.1 rfl ?_
        refine kz_ic (M := kt_M570) 2 kX13_typeBinary_c14.2.2.2.2.2.1 rfl ?_
        refine kz_icmp_eq (M := kt_M570) kX13_typeBinary_c14.2.2.2.2.2.2.1 (t := 225) rfl h (fun h => ?_) (fun h => ?_)
        · skip
          exact kz_weak [(0, .ref (w_adr E.2.1 12 0)), (1, .int x1)] ⟨rfl, ⟨rfl, trivial⟩⟩ rfl (zt_X13_typeBinary_p225 hL  h)
        · skip
          exact kz_weak [(0, .ref (w_adr E.2.1 12 0)), (1, .int x1)] ⟨rfl, ⟨rfl, trivial⟩⟩ rfl (zt_X13_typeBinary_p221 hL  h)
def zb_X13_typeBinary_p192 (E : zE) (L : Nat) (Q : kx_Rs → wS → Prop) (x1 : Int32) (x4 : Int32) (x5 : Int32) (x6 : Int32) (w : wS) : Prop := zb_X13_typeBinary_p197 E L Q x1 x4 x5 x6 1 w
theorem zt_X13_typeBinary_p192 {E : zE} {L : Nat} {Q : kx_Rs → wS → Prop} {x1 : Int32} {x4 : Int32} {x5 : Int32} {x6 : Int32} {w : wS} (hL : 23 ≤ L) (h : zb_X13_typeBinary_p192 E L Q x1 x4 x5 x6 w) : kzE E L kt_M570 192 [(0, .ref (w_adr E.2.1 12 0)), (1, .int x1), (4, .int x4), (5, .int x5), (6, .int x6)] [] w Q := by
  unfold zb_X13_typeBinary_p192 at h
  refine kz_ic (M := kt_M570) 1 kX13_typeBinary_c13.2.1 rfl ?_
  refine kz_goto (M := kt_M570) kX13_typeBinary_c13.2.2.1 (t := 197) rfl ?_
  exact kz_weak [(0, .ref (w_adr E.2.1 12 0)), (1, .int x1), (4, .int x4), (5, .int x5), (6, .int x6)] ⟨rfl, ⟨rfl, ⟨rfl, ⟨rfl, ⟨rfl, trivial⟩⟩⟩⟩⟩ rfl (zt_X13_typeBinary_p197 hL  h)
def zb_X13_typeBinary_p178 (E : zE) (L : Nat) (Q : kx_Rs → wS → Prop) (x1 : Int32) (x2 : Int32) (x4 : Int32) (x6 : Int32) (y0 : Int32) (w : wS) : Prop := (if x2 = 51 then zb_X13_typeBinary_p192 E L Q x1 x4 y0 x6 w else (if ¬ x2 = 52 then zb_X13_typeBinary_p197 E L Q x1 x4 y0 x6 0 w else zb_X13_typeBinary_p192 E L Q x1 x4 y0 x6 w))
theorem zt_X13_typeBinary_p178 {E : zE} {L : Nat} {Q : kx_Rs → wS → Prop} {x1 : Int32} {x2 : Int32} {x4 : Int32} {x6 : Int32} {y0 : Int32} {w : wS} (hL : 23 ≤ L) (h : zb_X13_typeBinary_p178 E L Q x1 x2 x4 x6 y0 w) : kzE E L kt_M570 178 [(0, .ref (w_adr E.2.1 12 0)), (1, .int x1), (2, .int x2), (4, .int x4), (6, .int x6)] [.int y0] w Q := by
  unfold zb_X13_typeBinary_p178 at h
  refine kz_sti (M := kt_M570) [(0, .ref (w_adr E.2.1 12 0)), (1, .int x1), (2, .int x2), (4, .int x4), (6, .int x6)] kX13_typeBinary_c12.2.2.1 (Nat.le_of_ble_eq_true rfl) ⟨⟨rfl, rfl, .inl rfl⟩, ⟨⟨rfl, rfl, .inl rfl⟩, ⟨⟨rfl, rfl, .inl rfl⟩, ⟨⟨rfl, rfl, .inr rfl⟩, ⟨⟨rfl, rfl, .inl rfl⟩, trivial⟩⟩⟩⟩⟩ rfl ?_
  refine kz_iload_n (M := kt_M570) kX13_typeBinary_c12.2.2.2.1 rfl ?_
  refine kz_bi (M := kt_M570) 51 kX13_typeBinary_c12.2.2.2.2.1 rfl ?_
  refine kz_icmp_eq (M := kt_M570) kX13_typeBinary_c12.2.2.2.2.2.1 (t := 192) rfl h (fun h => ?_) (fun h => ?_)
  · skip
    exact kz_weak [(0, .ref (w_adr E.2.1 12 0)), (1, .int x1), (4, .int x4), (5, .int y0), (6, .int x6)] ⟨rfl, ⟨rfl, ⟨rfl, ⟨rfl, ⟨rfl, trivial⟩⟩⟩⟩⟩ rfl (zt_X13_typeBinary_p192 hL  h)
  · skip
    refine kz_iload_n (M := kt_M570) kX13_typeBinary_c12.2.2.2.2.2.2.1 rfl ?_
    refine kz_bi (M := kt_M570) 52 kX13_typeBinary_c12.2.2.2.2.2.2.2.1 rfl ?_
    refine kz_icmp_ne (M := kt_M570) kX13_typeBinary_c13.1 (t := 196) rfl h (fun h => ?_) (fun h => ?_)
    · skip
      refine kz_ic (M := kt_M570) 0 kX13_typeBinary_c13.2.2.2.1 rfl ?_
      exact kz_weak [(0, .ref (w_adr E.2.1 12 0)), (1, .int x1), (4, .int x4), (5, .int y0), (6, .int x6)] ⟨rfl, ⟨rfl, ⟨rfl, ⟨rfl, ⟨rfl, trivial⟩⟩⟩⟩⟩ rfl (zt_X13_typeBinary_p197 hL  h)
    · skip
      exact kz_weak [(0, .ref (w_adr E.2.1 12 0)), (1, .int x1), (4, .int x4), (5, .int y0), (6, .int x6)] ⟨rfl, ⟨rfl, ⟨rfl, ⟨rfl, ⟨rfl, trivial⟩⟩⟩⟩⟩ rfl (zt_X13_typeBinary_p192 hL  h)
def zb_X13_typeBinary_p177 (E : zE) (L : Nat) (Q : kx_Rs → wS → Prop) (x1 : Int32) (x2 : Int32) (x4 : Int32) (x6 : Int32) (w : wS) : Prop := zb_X13_typeBinary_p178 E L Q x1 x2 x4 x6 0 w
theorem zt_X13_typeBinary_p177 {E : zE} {L : Nat} {Q : kx_Rs → wS → Prop} {x1 : Int32} {x2 : Int32} {x4 : Int32} {x6 : Int32} {w : wS} (hL : 23 ≤ L) (h : zb_X13_typeBinary_p177 E L Q x1 x2 x4 x6 w) : kzE E L kt_M570 177 [(0, .ref (w_adr E.2.1 12 0)), (1, .int x1), (2, .int x2), (4, .int x4), (6, .int x6)] [] w Q := by
  unfold zb_X13_typeBinary_p177 at h
  refine kz_ic (M := kt_M570) 0 kX13_typeBinary_c12.2.1 rfl ?_
  exact kz_weak [(0, .ref (w_adr E.2.1 12 0)), (1, .int x1), (2, .int x2), (4, .int x4), (6, .int x6)] ⟨rfl, ⟨rfl, ⟨rfl, ⟨rfl, ⟨rfl, trivial⟩⟩⟩⟩⟩ rfl (zt_X13_typeBinary_p178 hL  h)
def zb_X13_typeBinary_p173 (E : zE) (L : Nat) (Q : kx_Rs → wS → Prop) (x1 : Int32) (x2 : Int32) (x4 : Int32) (x6 : Int32) (w : wS) : Prop := zb_X13_typeBinary_p178 E L Q x1 x2 x4 x6 1 w
theorem zt_X13_typeBinary_p173 {E : zE} {L : Nat} {Q : kx_Rs → wS → Prop} {x1 : Int32} {x2 : Int32} {x4 : Int32} {x6 : Int32} {w : wS} (hL : 23 ≤ L) (h : zb_X13_typeBinary_p173 E L Q x1 x2 x4 x6 w) : kzE E L kt_M570 173 [(0, .ref (w_adr E.2.1 12 0)), (1, .int x1), (2, .int x2), (4, .int x4), (6, .int x6)] [] w Q := by
  unfold zb_X13_typeBinary_p173 at h
  refine kz_ic (M := kt_M570) 1 kX13_typeBinary_c11.2.2.2.2.2.2.2.1 rfl ?_
  refine kz_goto (M := kt_M570) kX13_typeBinary_c12.1 (t := 178) rfl ?_
  exact kz_weak [(0, .ref (w_adr E.2.1 12 0)), (1, .int x1), (2, .int x2), (4, .int x4), (6, .int x6)] ⟨rfl, ⟨rfl, ⟨rfl, ⟨rfl, ⟨rfl, trivial⟩⟩⟩⟩⟩ rfl (zt_X13_typeBinary_p178 hL  h)
def zb_X13_typeBinary_p147 (E : zE) (L : Nat) (Q : kx_Rs → wS → Prop) (x1 : Int32) (x2 : Int32) (x4 : Int32) (x6 : Int32) (y0 : Int32) (w : wS) : Prop := (if y0 = 0 then zb_X13_typeBinary_p177 E L Q x1 x2 x4 x6 w else (if x4 = (-1) then zb_X13_typeBinary_p173 E L Q x1 x2 x4 x6 w else (if x6 = (-1) then zb_X13_typeBinary_p173 E L Q x1 x2 x4 x6 w else (if ¬ x4 = x6 then zb_X13_typeBinary_p177 E L Q x1 x2 x4 x6 w else zb_X13_typeBinary_p173 E L Q x1 x2 x4 x6 w))))
theorem zt_X13_typeBinary_p147 {E : zE} {L : Nat} {Q : kx_Rs → wS → Prop} {x1 : Int32} {x2 : Int32} {x4 : Int32} {x6 : Int32} {y0 : Int32} {w : wS} (hL : 23 ≤ L) (h : zb_X13_typeBinary_p147 E L Q x1 x2 x4 x6 y0 w) : kzE E L kt_M570 147 [(0, .ref (w_adr E.2.1 12 0)), (1, .int x1), (2, .int x2), (4, .int x4), (6, .int x6)] [.int y0] w Q := by
  unfold zb_X13_typeBinary_p147 at h
  refine kz_sti (M := kt_M570) [(0, .ref (w_adr E.2.1 12 0)), (1, .int x1), (2, .int x2), (4, .int x4), (6, .int x6)] kX13_typeBinary_c10.2.2.2.1 (Nat.le_of_ble_eq_true rfl) ⟨⟨rfl, rfl, .inl rfl⟩, ⟨⟨rfl, rfl, .inl rfl⟩, ⟨⟨rfl, rfl, .inl rfl⟩, ⟨⟨rfl, rfl, .inr rfl⟩, ⟨⟨rfl, rfl, .inl rfl⟩, trivial⟩⟩⟩⟩⟩ rfl ?_
  refine kz_iload (M := kt_M570) kX13_typeBinary_c10.2.2.2.2.1 rfl ?_
  refine kz_if_eq (M := kt_M570) kX13_typeBinary_c10.2.2.2.2.2.1 (t := 177) rfl h (fun h => ?_) (fun h => ?_)
  · skip
    exact kz_weak [(0, .ref (w_adr E.2.1 12 0)), (1, .int x1), (2, .int x2), (4, .int x4), (6, .int x6)] ⟨rfl, ⟨rfl, ⟨rfl, ⟨rfl, ⟨rfl, trivial⟩⟩⟩⟩⟩ rfl (zt_X13_typeBinary_p177 hL  h)
  · skip
    refine kz_iload (M := kt_M570) kX13_typeBinary_c10.2.2.2.2.2.2.1 rfl ?_
    refine kz_ic (M := kt_M570) (-1) kX13_typeBinary_c10.2.2.2.2.2.2.2.1 rfl ?_
    refine kz_icmp_eq (M := kt_M570) kX13_typeBinary_c11.1 (t := 173) rfl h (fun h => ?_) (fun h => ?_)
    · skip
      exact kz_weak [(0, .ref (w_adr E.2.1 12 0)), (1, .int x1), (2, .int x2), (4, .int x4), (6, .int x6)] ⟨rfl, ⟨rfl, ⟨rfl, ⟨rfl, ⟨rfl, trivial⟩⟩⟩⟩⟩ rfl (zt_X13_typeBinary_p173 hL  h)
    · skip
      refine kz_iload (M := kt_M570) kX13_typeBinary_c11.2.1 rfl ?_
      refine kz_ic (M := kt_M570) (-1) kX13_typeBinary_c11.2.2.1 rfl ?_
      refine kz_icmp_eq (M := kt_M570) kX13_typeBinary_c11.2.2.2.1 (t := 173) rfl h (fun h => ?_) (fun h => ?_)
      · skip
        exact kz_weak [(0, .ref (w_adr E.2.1 12 0)), (1, .int x1), (2, .int x2), (4, .int x4), (6, .int x6)] ⟨rfl, ⟨rfl, ⟨rfl, ⟨rfl, ⟨rfl, trivial⟩⟩⟩⟩⟩ rfl (zt_X13_typeBinary_p173 hL  h)
      · skip
        refine kz_iload (M := kt_M570) kX13_typeBinary_c11.2.2.2.2.1 rfl ?_
        refine kz_iload (M := kt_M570) kX13_typeBinary_c11.2.2.2.2.2.1 rfl ?_
        refine kz_icmp_ne (M := kt_M570) kX13_typeBinary_c11.2.2.2.2.2.2.1 (t := 177) rfl h (fun h => ?_) (fun h => ?_)
        · skip
          exact kz_weak [(0, .ref (w_adr E.2.1 12 0)), (1, .int x1), (2, .int x2), (4, .int x4), (6, .int x6)] ⟨rfl, ⟨rfl, ⟨rfl, ⟨rfl, ⟨rfl, trivial⟩⟩⟩⟩⟩ rfl (zt_X13_typeBinary_p177 hL  h)
        · skip
          exact kz_weak [(0, .ref (w_adr E.2.1 12 0)), (1, .int x1), (2, .int x2), (4, .int x4), (6, .int x6)] ⟨rfl, ⟨rfl, ⟨rfl, ⟨rfl, ⟨rfl, trivial⟩⟩⟩⟩⟩ rfl (zt_X13_typeBinary_p173 hL  h)
def zb_X13_typeBinary_p146 (E : zE) (L : Nat) (Q : kx_Rs → wS → Prop) (x1 : Int32) (x2 : Int32) (x4 : Int32) (x6 : Int32) (w : wS) : Prop := zb_X13_typeBinary_p147 E L Q x1 x2 x4 x6 0 w
theorem zt_X13_typeBinary_p146 {E : zE} {L : Nat} {Q : kx_Rs → wS → Prop} {x1 : Int32} {x2 : Int32} {x4 : Int32} {x6 : Int32} {w : wS} (hL : 23 ≤ L) (h : zb_X13_typeBinary_p146 E L Q x1 x2 x4 x6 w) : kzE E L kt_M570 146 [(0, .ref (w_adr E.2.1 12 0)), (1, .int x1), (2, .int x2), (4, .int x4), (6, .int x6)] [] w Q := by
  unfold zb_X13_typeBinary_p146 at h
  refine kz_ic (M := kt_M570) 0 kX13_typeBinary_c10.2.2.1 rfl ?_
  exact kz_weak [(0, .ref (w_adr E.2.1 12 0)), (1, .int x1), (2, .int x2), (4, .int x4), (6, .int x6)] ⟨rfl, ⟨rfl, ⟨rfl, ⟨rfl, ⟨rfl, trivial⟩⟩⟩⟩⟩ rfl (zt_X13_typeBinary_p147 hL  h)
def zb_X13_typeBinary_p142 (E : zE) (L : Nat) (Q : kx_Rs → wS → Prop) (x1 : Int32) (x2 : Int32) (x4 : Int32) (x6 : Int32) (w : wS) : Prop := zb_X13_typeBinary_p147 E L Q x1 x2 x4 x6 1 w
theorem zt_X13_typeBinary_p142 {E : zE} {L : Nat} {Q : kx_Rs → wS → Prop} {x1 : Int32} {x2 : Int32} {x4 : Int32} {x6 : Int32} {w : wS} (hL : 23 ≤ L) (h : zb_X13_typeBinary_p142 E L Q x1 x2 x4 x6 w) : kzE E L kt_M570 142 [(0, .ref (w_adr E.2.1 12 0)), (1, .int x1), (2, .int x2), (4, .int x4), (6, .int x6)] [] w Q := by
  unfold zb_X13_typeBinary_p142 at h
  refine kz_ic (M := kt_M570) 1 kX13_typeBinary_c10.1 rfl ?_
  refine kz_goto (M := kt_M570) kX13_typeBinary_c10.2.1 (t := 147) rfl ?_
  exact kz_weak [(0, .ref (w_adr E.2.1 12 0)), (1, .int x1), (2, .int x2), (4, .int x4), (6, .int x6)] ⟨rfl, ⟨rfl, ⟨rfl, ⟨rfl, ⟨rfl, trivial⟩⟩⟩⟩⟩ rfl (zt_X13_typeBinary_p147 hL  h)
def zb_X13_typeBinary_p103 (E : zE) (L : Nat) (Q : kx_Rs → wS → Prop) (x1 : Int32) (x2 : Int32) (x4 : Int32) (y0 : Int32) (w : wS) : Prop := (kx_inb x1 (w_n w 12 0 30) = true ∧ zw E (L - 23) kt_M576 [.ref (w_adr E.2.1 12 0), .int (w_a w 12 0 30 (x1).toNatClampNeg)] w (wk1 (fun v2 w1 => wle w w1 → (if y0 = 0 then zb_X13_typeBinary_p146 E L Q x1 x2 x4 v2 w1 else (if v2 = (-1) then zb_X13_typeBinary_p142 E L Q x1 x2 x4 v2 w1 else (if ¬ w_i w1 12 0 73 = (-1) then zb_X13_typeBinary_p146 E L Q x1 x2 x4 v2 w1 else (if 2 < v2 then zb_X13_typeBinary_p146 E L Q x1 x2 x4 v2 w1 else zb_X13_typeBinary_p142 E L Q x1 x2 x4 v2 w1))))) (fun e w => Q (.inr e) w)))
theorem zt_X13_typeBinary_p103 {E : zE} {L : Nat} {Q : kx_Rs → wS → Prop} {x1 : Int32} {x2 : Int32} {x4 : Int32} {y0 : Int32} {w : wS} (hL : 23 ≤ L) (h : zb_X13_typeBinary_p103 E L Q x1 x2 x4 y0 w) : kzE E L kt_M570 103 [(0, .ref (w_adr E.2.1 12 0)), (1, .int x1), (2, .int x2), (4, .int x4)] [.int y0] w Q := by
  unfold zb_X13_typeBinary_p103 at h
  refine kz_sti (M := kt_M570) [(0, .ref (w_adr E.2.1 12 0)), (1, .int x1), (2, .int x2), (4, .int x4)] kX13_typeBinary_c7.2.2.2.2.1 (Nat.le_of_ble_eq_true rfl) ⟨⟨rfl, rfl, .inl rfl⟩, ⟨⟨rfl, rfl, .inl rfl⟩, ⟨⟨rfl, rfl, .inl rfl⟩, ⟨⟨rfl, rfl, .inr rfl⟩, trivial⟩⟩⟩⟩ rfl ?_
  refine kz_aload_n (M := kt_M570) kX13_typeBinary_c7.2.2.2.2.2.1 rfl ?_
  refine kz_aload_n (M := kt_M570) kX13_typeBinary_c7.2.2.2.2.2.2.1 rfl ?_
  refine kz_gfc (M := kt_M570) (x := 4102) (c := 12) (o := 0) kX13_typeBinary_c7.2.2.2.2.2.2.2.1 wf_X13_199 (.inl rfl) ?_
  refine kz_iload_n (M := kt_M570) kX13_typeBinary_c8.1 rfl ?_
  refine kz_iald (M := kt_M570) (c := 12) (o := 0) (k := 30) (a := (E.2.1 4102)) kX13_typeBinary_c8.2.1 ow_12_0_30 oa_12_0_30 ot_0 h (fun h => ?_)
  refine kz_cv1 (M := kt_M570) (c := 12) (o := 0) (As := [.int (w_a w 12 0 30 (x1).toNatClampNeg)]) (rest := []) kX13_typeBinary_c8.2.2.1 wl_X13_853 wMv_576 rfl (.inl rfl) rfl (Nat.le_trans (Nat.le_of_ble_eq_true rfl) hL) (Nat.le_of_ble_eq_true rfl) (Nat.le_of_ble_eq_true rfl) h (fun v2 w1 hle h => ?_) (fun _ _ _ h => kzx_no rfl h)
  have h := h hle
  refine kz_sti (M := kt_M570) [(0, .ref (w_adr E.2.1 12 0)), (1, .int x1), (2, .int x2), (4, .int x4), (5, .int y0)] kX13_typeBinary_c8.2.2.2.1 (Nat.le_of_ble_eq_true rfl) ⟨⟨rfl, rfl, .inl rfl⟩, ⟨⟨rfl, rfl, .inl rfl⟩, ⟨⟨rfl, rfl, .inl rfl⟩, ⟨⟨rfl, rfl, .inl rfl⟩, ⟨⟨rfl, rfl, .inr rfl⟩, trivial⟩⟩⟩⟩⟩ rfl ?_
  refine kz_iload (M := kt_M570) kX13_typeBinary_c8.2.2.2.2.1 rfl ?_
  refine kz_if_eq (M := kt_M570) kX13_typeBinary_c8.2.2.2.2.2.1 (t := 146) rfl h (fun h => ?_) (fun h => ?_)
  · skip
    exact kz_weak [(0, .ref (w_adr E.2.1 12 0)), (1, .int x1), (2, .int x2), (4, .int x4), (6, .int v2)] ⟨rfl, ⟨rfl, ⟨rfl, ⟨rfl, ⟨rfl, trivial⟩⟩⟩⟩⟩ rfl (zt_X13_typeBinary_p146 hL  h)
  · skip
    refine kz_iload (M := kt_M570) kX13_typeBinary_c8.2.2.2.2.2.2.1 rfl ?_
    refine kz_ic (M := kt_M570) (-1) kX13_typeBinary_c8.2.2.2.2.2.2.2.1 rfl ?_
    refine kz_icmp_eq (M := kt_M570) kX13_typeBinary_c9.1 (t := 142) rfl h (fun h => ?_) (fun h => ?_)
    · skip
      exact kz_weak [(0, .ref (w_adr E.2.1 12 0)), (1, .int x1), (2, .int x2), (4, .int x4), (6, .int v2)] ⟨rfl, ⟨rfl, ⟨rfl, ⟨rfl, ⟨rfl, trivial⟩⟩⟩⟩⟩ rfl (zt_X13_typeBinary_p142 hL  h)
    · skip
      refine kz_aload_n (M := kt_M570) kX13_typeBinary_c9.2.1 rfl ?_
      refine kz_gfi (M := kt_M570) (c := 12) (o := 0) kX13_typeBinary_c9.2.2.1 wf_X13_859 (.inl rfl) ?_
      refine kz_ic (M := kt_M570) (-1) kX13_typeBinary_c9.2.2.2.1 rfl ?_
      refine kz_icmp_ne (M := kt_M570) kX13_typeBinary_c9.2.2.2.2.1 (t := 146) rfl h (fun h => ?_) (fun h => ?_)
      · skip
        exact kz_weak [(0, .ref (w_adr E.2.1 12 0)), (1, .int x1), (2, .int x2), (4, .int x4), (6, .int v2)] ⟨rfl, ⟨rfl, ⟨rfl, ⟨rfl, ⟨rfl, trivial⟩⟩⟩⟩⟩ rfl (zt_X13_typeBinary_p146 hL  h)
      · skip
        refine kz_iload (M := kt_M570) kX13_typeBinary_c9.2.2.2.2.2.1 rfl ?_
        refine kz_ic (M := kt_M570) 2 kX13_typeBinary_c9.2.2.2.2.2.2.1 rfl ?_
        refine kz_icmp_gt (M := kt_M570) kX13_typeBinary_c9.2.2.2.2.2.2.2.1 (t := 146) rfl h (fun h => ?_) (fun h => ?_)
        · skip
          exact kz_weak [(0, .ref (w_adr E.2.1 12 0)), (1, .int x1), (2, .int x2), (4, .int x4), (6, .int v2)] ⟨rfl, ⟨rfl, ⟨rfl, ⟨rfl, ⟨rfl, trivial⟩⟩⟩⟩⟩ rfl (zt_X13_typeBinary_p146 hL  h)
        · skip
          exact kz_weak [(0, .ref (w_adr E.2.1 12 0)), (1, .int x1), (2, .int x2), (4, .int x4), (6, .int v2)] ⟨rfl, ⟨rfl, ⟨rfl, ⟨rfl, ⟨rfl, trivial⟩⟩⟩⟩⟩ rfl (zt_X13_typeBinary_p142 hL  h)
def zb_X13_typeBinary_p102 (E : zE) (L : Nat) (Q : kx_Rs → wS → Prop) (x1 : Int32) (x2 : Int32) (x4 : Int32) (w : wS) : Prop := zb_X13_typeBinary_p103 E L Q x1 x2 x4 0 w
theorem zt_X13_typeBinary_p102 {E : zE} {L : Nat} {Q : kx_Rs → wS → Prop} {x1 : Int32} {x2 : Int32} {x4 : Int32} {w : wS} (hL : 23 ≤ L) (h : zb_X13_typeBinary_p102 E L Q x1 x2 x4 w) : kzE E L kt_M570 102 [(0, .ref (w_adr E.2.1 12 0)), (1, .int x1), (2, .int x2), (4, .int x4)] [] w Q := by
  unfold zb_X13_typeBinary_p102 at h
  refine kz_ic (M := kt_M570) 0 kX13_typeBinary_c7.2.2.2.1 rfl ?_
  exact kz_weak [(0, .ref (w_adr E.2.1 12 0)), (1, .int x1), (2, .int x2), (4, .int x4)] ⟨rfl, ⟨rfl, ⟨rfl, ⟨rfl, trivial⟩⟩⟩⟩ rfl (zt_X13_typeBinary_p103 hL  h)
def zb_X13_typeBinary_p98 (E : zE) (L : Nat) (Q : kx_Rs → wS → Prop) (x1 : Int32) (x2 : Int32) (x4 : Int32) (w : wS) : Prop := zb_X13_typeBinary_p103 E L Q x1 x2 x4 1 w
theorem zt_X13_typeBinary_p98 {E : zE} {L : Nat} {Q : kx_Rs → wS → Prop} {x1 : Int32} {x2 : Int32} {x4 : Int32} {w : wS} (hL : 23 ≤ L) (h : zb_X13_typeBinary_p98 E L Q x1 x2 x4 w) : kzE E L kt_M570 98 [(0, .ref (w_adr E.2.1 12 0)), (1, .int x1), (2, .int x2), (4, .int x4)] [] w Q := by
  unfold zb_X13_typeBinary_p98 at h
  refine kz_ic (M := kt_M570) 1 kX13_typeBinary_c7.2.1 rfl ?_
  refine kz_goto (M := kt_M570) kX13_typeBinary_c7.2.2.1 (t := 103) rfl ?_
  exact kz_weak [(0, .ref (w_adr E.2.1 12 0)), (1, .int x1), (2, .int x2), (4, .int x4)] ⟨rfl, ⟨rfl, ⟨rfl, ⟨rfl, trivial⟩⟩⟩⟩ rfl (zt_X13_typeBinary_p103 hL  h)
def zb_X13_typeBinary_p61 (E : zE) (L : Nat) (Q : kx_Rs → wS → Prop) (y0 : Int32) (w : wS) : Prop := zw E (L - 22) kt_M435 [.ref (w_adr E.2.1 12 0), .int y0, .int (-1)] w (wk1 (fun v2 w1 => wle w w1 → Q (.inl (some (.int v2))) w1) (fun e w => Q (.inr e) w))
theorem zt_X13_typeBinary_p61 {E : zE} {L : Nat} {Q : kx_Rs → wS → Prop} {y0 : Int32} {w : wS} (hL : 23 ≤ L) (h : zb_X13_typeBinary_p61 E L Q y0 w) : kzE E L kt_M570 61 [(0, .ref (w_adr E.2.1 12 0))] [.int y0, .ref (w_adr E.2.1 12 0)] w Q := by
  unfold zb_X13_typeBinary_p61 at h
  refine kz_ic (M := kt_M570) (-1) kX13_typeBinary_c4.2.2.2.2.2.1 rfl ?_
  refine kz_cv1 (M := kt_M570) (c := 12) (o := 0) (As := [.int y0, .int (-1)]) (rest := []) kX13_typeBinary_c4.2.2.2.2.2.2.1 wl_X13_865 wMv_435 rfl (.inl rfl) rfl (Nat.le_trans (Nat.le_of_ble_eq_true rfl) hL) (Nat.le_of_ble_eq_true rfl) (Nat.le_of_ble_eq_true rfl) h (fun v2 w1 hle h => ?_) (fun _ _ _ h => kzx_no rfl h)
  have h := h hle
  exact kz_iret (M := kt_M570) kX13_typeBinary_c4.2.2.2.2.2.2.2.1 rfl rfl h
def zb_X13_typeBinary_p24 (E : zE) (L : Nat) (Q : kx_Rs → wS → Prop) (x1 : Int32) (x2 : Int32) (y0 : Int32) (w : wS) : Prop := (if ¬ y0 = 0 then (kx_inb x1 (w_n w 12 0 28) = true ∧ zw E (L - 23) kt_M576 [.ref (w_adr E.2.1 12 0), .int (w_a w 12 0 28 (x1).toNatClampNeg)] w (wk1 (fun v2 w1 => wle w w1 → (if v2 = (-1) then zb_X13_typeBinary_p98 E L Q x1 x2 v2 w1 else (if ¬ w_i w1 12 0 73 = (-1) then zb_X13_typeBinary_p102 E L Q x1 x2 v2 w1 else (if 2 < v2 then zb_X13_typeBinary_p102 E L Q x1 x2 v2 w1 else zb_X13_typeBinary_p98 E L Q x1 x2 v2 w1)))) (fun e w => Q (.inr e) w))) else (kx_inb x1 (w_n w 12 0 28) = true ∧ zw E (L - 23) kt_M602 [.ref (w_adr E.2.1 12 0), .int (w_a w 12 0 28 (x1).toNatClampNeg), .int 0] w (wk0 (fun w3 => wle w w3 → (kx_inb x1 (w_n w3 12 0 30) = true ∧ zw E (L - 23) kt_M602 [.ref (w_adr E.2.1 12 0), .int (w_a w3 12 0 30 (x1).toNatClampNeg), .int 0] w3 (wk0 (fun w5 => wle w3 w5 → (if ¬ x2 = 0 then zb_X13_typeBinary_p61 E L Q 0 w5 else zb_X13_typeBinary_p61 E L Q 2 w5)) (fun e w => Q (.inr e) w)))) (fun e w => Q (.inr e) w))))
theorem zt_X13_typeBinary_p24 {E : zE} {L : Nat} {Q : kx_Rs → wS → Prop} {x1 : Int32} {x2 : Int32} {y0 : Int32} {w : wS} (hL : 23 ≤ L) (h : zb_X13_typeBinary_p24 E L Q x1 x2 y0 w) : kzE E L kt_M570 24 [(0, .ref (w_adr E.2.1 12 0)), (1, .int x1), (2, .int x2)] [.int y0] w Q := by
  unfold zb_X13_typeBinary_p24 at h
  refine kz_sti_n (M := kt_M570) [(0, .ref (w_adr E.2.1 12 0)), (1, .int x1), (2, .int x2)] kX13_typeBinary_c1.2.2.2.2.2.2.1 (Nat.le_of_ble_eq_true rfl) ⟨⟨rfl, rfl, .inl rfl⟩, ⟨⟨rfl, rfl, .inl rfl⟩, ⟨⟨rfl, rfl, .inr rfl⟩, trivial⟩⟩⟩ rfl ?_
  refine kz_iload_n (M := kt_M570) kX13_typeBinary_c1.2.2.2.2.2.2.2.1 rfl ?_
  refine kz_if_ne (M := kt_M570) kX13_typeBinary_c2.1 (t := 66) rfl h (fun h => ?_) (fun h => ?_)
  · skip
    refine kz_aload_n (M := kt_M570) kX13_typeBinary_c5.1 rfl ?_
    refine kz_aload_n (M := kt_M570) kX13_typeBinary_c5.2.1 rfl ?_
    refine kz_gfc (M := kt_M570) (x := 4100) (c := 12) (o := 0) kX13_typeBinary_c5.2.2.1 wf_X13_193 (.inl rfl) ?_
    refine kz_iload_n (M := kt_M570) kX13_typeBinary_c5.2.2.2.1 rfl ?_
    refine kz_iald (M := kt_M570) (c := 12) (o := 0) (k := 28) (a := (E.2.1 4100)) kX13_typeBinary_c5.2.2.2.2.1 ow_12_0_28 oa_12_0_28 ot_0 h (fun h => ?_)
    refine kz_cv1 (M := kt_M570) (c := 12) (o := 0) (As := [.int (w_a w 12 0 28 (x1).toNatClampNeg)]) (rest := []) kX13_typeBinary_c5.2.2.2.2.2.1 wl_X13_853 wMv_576 rfl (.inl rfl) rfl (Nat.le_trans (Nat.le_of_ble_eq_true rfl) hL) (Nat.le_of_ble_eq_true rfl) (Nat.le_of_ble_eq_true rfl) h (fun v2 w1 hle h => ?_) (fun _ _ _ h => kzx_no rfl h)
    have h := h hle
    refine kz_sti (M := kt_M570) [(0, .ref (w_adr E.2.1 12 0)), (1, .int x1), (2, .int x2)] kX13_typeBinary_c5.2.2.2.2.2.2.1 (Nat.le_of_ble_eq_true rfl) ⟨⟨rfl, rfl, .inl rfl⟩, ⟨⟨rfl, rfl, .inl rfl⟩, ⟨⟨rfl, rfl, .inl rfl⟩, trivial⟩⟩⟩ rfl ?_
    refine kz_iload (M := kt_M570) kX13_typeBinary_c5.2.2.2.2.2.2.2.1 rfl ?_
    refine kz_ic (M := kt_M570) (-1) kX13_typeBinary_c6.1 rfl ?_
    refine kz_icmp_eq (M := kt_M570) kX13_typeBinary_c6.2.1 (t := 98) rfl h (fun h => ?_) (fun h => ?_)
    · skip
      exact kz_weak [(0, .ref (w_adr E.2.1 12 0)), (1, .int x1), (2, .int x2), (4, .int v2)] ⟨rfl, ⟨rfl, ⟨rfl, ⟨rfl, trivial⟩⟩⟩⟩ rfl (zt_X13_typeBinary_p98 hL  h)
    · skip
      refine kz_aload_n (M := kt_M570) kX13_typeBinary_c6.2.2.1 rfl ?_
      refine kz_gfi (M := kt_M570) (c := 12) (o := 0) kX13_typeBinary_c6.2.2.2.1 wf_X13_859 (.inl rfl) ?_
      refine kz_ic (M := kt_M570) (-1) kX13_typeBinary_c6.2.2.2.2.1 rfl ?_
      refine kz_icmp_ne (M := kt_M570) kX13_typeBinary_c6.2.2.2.2.2.1 (t := 102) rfl h (fun h => ?_) (fun h => ?_)
      · skip
        exact kz_weak [(0, .ref (w_adr E.2.1 12 0)), (1, .int x1), (2, .int x2), (4, .int v2)] ⟨rfl, ⟨rfl, ⟨rfl, ⟨rfl, trivial⟩⟩⟩⟩ rfl (zt_X13_typeBinary_p102 hL  h)
      · skip
        refine kz_iload (M := kt_M570) kX13_typeBinary_c6.2.2.2.2.2.2.1 rfl ?_
        refine kz_ic (M := kt_M570) 2 kX13_typeBinary_c6.2.2.2.2.2.2.2.1 rfl ?_
        refine kz_icmp_gt (M := kt_M570) kX13_typeBinary_c7.1 (t := 102) rfl h (fun h => ?_) (fun h => ?_)
        · skip
          exact kz_weak [(0, .ref (w_adr E.2.1 12 0)), (1, .int x1), (2, .int x2), (4, .int v2)] ⟨rfl, ⟨rfl, ⟨rfl, ⟨rfl, trivial⟩⟩⟩⟩ rfl (zt_X13_typeBinary_p102 hL  h)
        · skip
          exact kz_weak [(0, .ref (w_adr E.2.1 12 0)), (1, .int x1), (2, .int x2), (4, .int v2)] ⟨rfl, ⟨rfl, ⟨rfl, ⟨rfl, trivial⟩⟩⟩⟩ rfl (zt_X13_typeBinary_p98 hL  h)
  · skip
    refine kz_aload_n (M := kt_M570) kX13_typeBinary_c2.2.1 rfl ?_
    refine kz_aload_n (M := kt_M570) kX13_typeBinary_c2.2.2.1 rfl ?_
    refine kz_gfc (M := kt_M570) (x := 4100) (c := 12) (o := 0) kX13_typeBinary_c2.2.2.2.1 wf_X13_193 (.inl rfl) ?_
    refine kz_iload_n (M := kt_M570) kX13_typeBinary_c2.2.2.2.2.1 rfl ?_
    refine kz_iald (M := kt_M570) (c := 12) (o := 0) (k := 28) (a := (E.2.1 4100)) kX13_typeBinary_c2.2.2.2.2.2.1 ow_12_0_28 oa_12_0_28 ot_0 h (fun h => ?_)
    refine kz_ic (M := kt_M570) 0 kX13_typeBinary_c2.2.2.2.2.2.2.1 rfl ?_
    refine kz_cv0 (M := kt_M570) (c := 12) (o := 0) (As := [.int (w_a w 12 0 28 (x1).toNatClampNeg), .int 0]) (rest := []) kX13_typeBinary_c2.2.2.2.2.2.2.2.1 wl_X13_880 wMv_602 rfl (.inl rfl) rfl (Nat.le_trans (Nat.le_of_ble_eq_true rfl) hL) (Nat.le_of_ble_eq_true rfl) (Nat.le_of_ble_eq_true rfl) h (fun w3 hle h => ?_) (fun _ _ _ h => kzx_no rfl h)
    have h := h hle
    refine kz_aload_n (M := kt_M570) kX13_typeBinary_c3.1 rfl ?_
    refine kz_aload_n (M := kt_M570) kX13_typeBinary_c3.2.1 rfl ?_
    refine kz_gfc (M := kt_M570) (x := 4102) (c := 12) (o := 0) kX13_typeBinary_c3.2.2.1 wf_X13_199 (.inl rfl) ?_
    refine kz_iload_n (M := kt_M570) kX13_typeBinary_c3.2.2.2.1 rfl ?_
    refine kz_iald (M := kt_M570) (c := 12) (o := 0) (k := 30) (a := (E.2.1 4102)) kX13_typeBinary_c3.2.2.2.2.1 ow_12_0_30 oa_12_0_30 ot_0 h (fun h => ?_)
    refine kz_ic (M := kt_M570) 0 kX13_typeBinary_c3.2.2.2.2.2.1 rfl ?_
    refine kz_cv0 (M := kt_M570) (c := 12) (o := 0) (As := [.int (w_a w3 12 0 30 (x1).toNatClampNeg), .int 0]) (rest := []) kX13_typeBinary_c3.2.2.2.2.2.2.1 wl_X13_880 wMv_602 rfl (.inl rfl) rfl (Nat.le_trans (Nat.le_of_ble_eq_true rfl) hL) (Nat.le_of_ble_eq_true rfl) (Nat.le_of_ble_eq_true rfl) h (fun w5 hle h => ?_) (fun _ _ _ h => kzx_no rfl h)
    have h := h hle
    refine kz_aload_n (M := kt_M570) kX13_typeBinary_c3.2.2.2.2.2.2.2.1 rfl ?_
    refine kz_iload_n (M := kt_M570) kX13_typeBinary_c4.1 rfl ?_
    refine kz_if_ne (M := kt_M570) kX13_typeBinary_c4.2.1 (t := 60) rfl h (fun h => ?_) (fun h => ?_)
    · skip
      refine kz_ic (M := kt_M570) 0 kX13_typeBinary_c4.2.2.2.2.1 rfl ?_
      exact kz_weak [(0, .ref (w_adr E.2.1 12 0))] ⟨rfl, trivial⟩ rfl (zt_X13_typeBinary_p61 hL  h)
    · skip
      refine kz_ic (M := kt_M570) 2 kX13_typeBinary_c4.2.2.1 rfl ?_
      refine kz_goto (M := kt_M570) kX13_typeBinary_c4.2.2.2.1 (t := 61) rfl ?_
      exact kz_weak [(0, .ref (w_adr E.2.1 12 0))] ⟨rfl, trivial⟩ rfl (zt_X13_typeBinary_p61 hL  h)
def zb_X13_typeBinary_p23 (E : zE) (L : Nat) (Q : kx_Rs → wS → Prop) (x1 : Int32) (x2 : Int32) (w : wS) : Prop := zb_X13_typeBinary_p24 E L Q x1 x2 0 w
theorem zt_X13_typeBinary_p23 {E : zE} {L : Nat} {Q : kx_Rs → wS → Prop} {x1 : Int32} {x2 : Int32} {w : wS} (hL : 23 ≤ L) (h : zb_X13_typeBinary_p23 E L Q x1 x2 w) : kzE E L kt_M570 23 [(0, .ref (w_adr E.2.1 12 0)), (1, .int x1), (2, .int x2)] [] w Q := by
  unfold zb_X13_typeBinary_p23 at h
  refine kz_ic (M := kt_M570) 0 kX13_typeBinary_c1.2.2.2.2.2.1 rfl ?_
  exact kz_weak [(0, .ref (w_adr E.2.1 12 0)), (1, .int x1), (2, .int x2)] ⟨rfl, ⟨rfl, ⟨rfl, trivial⟩⟩⟩ rfl (zt_X13_typeBinary_p24 hL  h)
def zb_X13_typeBinary_p0 (E : zE) (L : Nat) (Q : kx_Rs → wS → Prop) (x1 : Int32) (w : wS) : Prop := (kx_inb x1 (w_n w 12 0 29) = true ∧ (if w_a w 12 0 29 (x1).toNatClampNeg < 51 then zb_X13_typeBinary_p23 E L Q x1 (w_a w 12 0 29 (x1).toNatClampNeg) w else (if 56 < w_a w 12 0 29 (x1).toNatClampNeg then zb_X13_typeBinary_p23 E L Q x1 (w_a w 12 0 29 (x1).toNatClampNeg) w else zb_X13_typeBinary_p24 E L Q x1 (w_a w 12 0 29 (x1).toNatClampNeg) 1 w)))
theorem zt_X13_typeBinary_p0 {E : zE} {L : Nat} {Q : kx_Rs → wS → Prop} {x1 : Int32} {w : wS} (hL : 23 ≤ L) (h : zb_X13_typeBinary_p0 E L Q x1 w) : kzE E L kt_M570 0 [(0, .ref (w_adr E.2.1 12 0)), (1, .int x1)] [] w Q := by
  unfold zb_X13_typeBinary_p0 at h
  refine kz_aload_n (M := kt_M570) kX13_typeBinary_c0.1 rfl ?_
  refine kz_gfc (M := kt_M570) (x := 4101) (c := 12) (o := 0) kX13_typeBinary_c0.2.1 wf_X13_196 (.inl rfl) ?_
  refine kz_iload_n (M := kt_M570) kX13_typeBinary_c0.2.2.1 rfl ?_
  refine kz_iald (M := kt_M570) (c := 12) (o := 0) (k := 29) (a := (E.2.1 4101)) kX13_typeBinary_c0.2.2.2.1 ow_12_0_29 oa_12_0_29 ot_0 h (fun h => ?_)
  refine kz_sti_n (M := kt_M570) [(0, .ref (w_adr E.2.1 12 0)), (1, .int x1)] kX13_typeBinary_c0.2.2.2.2.1 (Nat.le_of_ble_eq_true rfl) ⟨⟨rfl, rfl, .inl rfl⟩, ⟨⟨rfl, rfl, .inr rfl⟩, trivial⟩⟩ rfl ?_
  refine kz_iload_n (M := kt_M570) kX13_typeBinary_c0.2.2.2.2.2.1 rfl ?_
  refine kz_bi (M := kt_M570) 51 kX13_typeBinary_c0.2.2.2.2.2.2.1 rfl ?_
  refine kz_icmp_lt (M := kt_M570) kX13_typeBinary_c0.2.2.2.2.2.2.2.1 (t := 23) rfl h (fun h => ?_) (fun h => ?_)
  · skip
    exact kz_weak [(0, .ref (w_adr E.2.1 12 0)), (1, .int x1), (2, .int (w_a w 12 0 29 (x1).toNatClampNeg))] ⟨rfl, ⟨rfl, ⟨rfl, trivial⟩⟩⟩ rfl (zt_X13_typeBinary_p23 hL  h)
  · skip
    refine kz_iload_n (M := kt_M570) kX13_typeBinary_c1.1 rfl ?_
    refine kz_bi (M := kt_M570) 56 kX13_typeBinary_c1.2.1 rfl ?_
    refine kz_icmp_gt (M := kt_M570) kX13_typeBinary_c1.2.2.1 (t := 23) rfl h (fun h => ?_) (fun h => ?_)
    · skip
      exact kz_weak [(0, .ref (w_adr E.2.1 12 0)), (1, .int x1), (2, .int (w_a w 12 0 29 (x1).toNatClampNeg))] ⟨rfl, ⟨rfl, ⟨rfl, trivial⟩⟩⟩ rfl (zt_X13_typeBinary_p23 hL  h)
    · skip
      refine kz_ic (M := kt_M570) 1 kX13_typeBinary_c1.2.2.2.1 rfl ?_
      refine kz_goto (M := kt_M570) kX13_typeBinary_c1.2.2.2.2.1 (t := 24) rfl ?_
      exact kz_weak [(0, .ref (w_adr E.2.1 12 0)), (1, .int x1), (2, .int (w_a w 12 0 29 (x1).toNatClampNeg))] ⟨rfl, ⟨rfl, ⟨rfl, trivial⟩⟩⟩ rfl (zt_X13_typeBinary_p24 hL  h)
def zL_X13_typeArguments_p49 (E : zE) (L : Nat) (Q : kx_Rs → wS → Prop) (x1 : Int32) (x3 : Int32) (x4 : Int32) (x5 : Int32) (w : wS) : Prop := kzE E L kt_M568 49 [(0, .ref (w_adr E.2.1 12 0)), (1, .int x1), (3, .int x3), (4, .int x4), (5, .int x5)] [] w Q
def zL_X13_typeArguments_p10 (E : zE) (L : Nat) (Q : kx_Rs → wS → Prop) (x1 : Int32) (x3 : Int32) (x4 : Int32) (w : wS) : Prop := kzE E L kt_M568 10 [(0, .ref (w_adr E.2.1 12 0)), (1, .int x1), (3, .int x3), (4, .int x4)] [] w Q
def zb_X13_typeArguments_p95 (E : zE) (L : Nat) (Q : kx_Rs → wS → Prop) (w : wS) : Prop := Q (.inl none) w
theorem zt_X13_typeArguments_p95 {E : zE} {L : Nat} {Q : kx_Rs → wS → Prop} {w : wS} (hL : 29 ≤ L) (h : zb_X13_typeArguments_p95 E L Q  w) : kzE E L kt_M568 95 [(0, .ref (w_adr E.2.1 12 0))] [] w Q := by
  unfold zb_X13_typeArguments_p95 at h
  exact kz_ret (M := kt_M568) kX13_typeArguments_c6.2.2.2.1 rfl h
def zb_X13_typeArguments_p83 (E : zE) (L : Nat) (Q : kx_Rs → wS → Prop) (x1 : Int32) (w : wS) : Prop := (kx_inb x1 (w_n w 12 0 27) = true ∧ zw E (L - 22) kt_M560 [.ref (w_adr E.2.1 12 0), .int 8, .int (w_a w 12 0 27 (x1).toNatClampNeg)] w (wk0 (fun w1 => wle w w1 → zb_X13_typeArguments_p95 E L Q w1) (fun e w => Q (.inr e) w)))
theorem zt_X13_typeArguments_p83 {E : zE} {L : Nat} {Q : kx_Rs → wS → Prop} {x1 : Int32} {w : wS} (hL : 29 ≤ L) (h : zb_X13_typeArguments_p83 E L Q x1 w) : kzE E L kt_M568 83 [(0, .ref (w_adr E.2.1 12 0)), (1, .int x1)] [] w Q := by
  unfold zb_X13_typeArguments_p83 at h
  refine kz_aload_n (M := kt_M568) kX13_typeArguments_c5.2.2.2.2.1 rfl ?_
  refine kz_bi (M := kt_M568) 8 kX13_typeArguments_c5.2.2.2.2.2.1 rfl ?_
  refine kz_aload_n (M := kt_M568) kX13_typeArguments_c5.2.2.2.2.2.2.1 rfl ?_
  refine kz_gfc (M := kt_M568) (x := 4099) (c := 12) (o := 0) kX13_typeArguments_c5.2.2.2.2.2.2.2.1 wf_X13_190 (.inl rfl) ?_
  refine kz_iload_n (M := kt_M568) kX13_typeArguments_c6.1 rfl ?_
  refine kz_iald (M := kt_M568) (c := 12) (o := 0) (k := 27) (a := (E.2.1 4099)) kX13_typeArguments_c6.2.1 ow_12_0_27 oa_12_0_27 ot_0 h (fun h => ?_)
  refine kz_cv0 (M := kt_M568) (c := 12) (o := 0) (As := [.int 8, .int (w_a w 12 0 27 (x1).toNatClampNeg)]) (rest := []) kX13_typeArguments_c6.2.2.1 wl_X13_734 wMv_560 rfl (.inl rfl) rfl (Nat.le_trans (Nat.le_of_ble_eq_true rfl) hL) (Nat.le_of_ble_eq_true rfl) (Nat.le_of_ble_eq_true rfl) h (fun w1 hle h => ?_) (fun _ _ _ h => kzx_no rfl h)
  have h := h hle
  exact kz_weak [(0, .ref (w_adr E.2.1 12 0))] ⟨rfl, trivial⟩ rfl (zt_X13_typeArguments_p95 hL  h)
def zb_X13_typeArguments_p49 (E : zE) (L : Nat) (Q : kx_Rs → wS → Prop) (x1 : Int32) (x3 : Int32) (x4 : Int32) (x5 : Int32) (w : wS) : Prop := (if x5 < 0 then (if 0 ≤ x4 then zb_X13_typeArguments_p83 E L Q x1 w else (if x3 < 0 then zb_X13_typeArguments_p95 E L Q w else zb_X13_typeArguments_p83 E L Q x1 w)) else zw E (L - 23) kt_M576 [.ref (w_adr E.2.1 12 0), .int x5] w (wk1 (fun v2 w1 => wle w w1 → (kx_inb x5 (w_n w1 12 0 32) = true ∧ zL_X13_typeArguments_p49 E L Q x1 x3 x4 (w_a w1 12 0 32 (x5).toNatClampNeg) w1)) (fun e w => Q (.inr e) w)))
theorem zt_X13_typeArguments_p49 {E : zE} {L : Nat} {Q : kx_Rs → wS → Prop} {x1 : Int32} {x3 : Int32} {x4 : Int32} {x5 : Int32} {w : wS} (hL : 29 ≤ L) (h : zb_X13_typeArguments_p49 E L Q x1 x3 x4 x5 w) : kzE E L kt_M568 49 [(0, .ref (w_adr E.2.1 12 0)), (1, .int x1), (3, .int x3), (4, .int x4), (5, .int x5)] [] w Q := by
  unfold zb_X13_typeArguments_p49 at h
  refine kz_iload (M := kt_M568) kX13_typeArguments_c3.2.2.2.2.1 rfl ?_
  refine kz_if_lt (M := kt_M568) kX13_typeArguments_c3.2.2.2.2.2.1 (t := 74) rfl h (fun h => ?_) (fun h => ?_)
  · skip
    refine kz_iload (M := kt_M568) kX13_typeArguments_c5.1 rfl ?_
    refine kz_if_ge (M := kt_M568) kX13_typeArguments_c5.2.1 (t := 83) rfl h (fun h => ?_) (fun h => ?_)
    · skip
      exact kz_weak [(0, .ref (w_adr E.2.1 12 0)), (1, .int x1)] ⟨rfl, ⟨rfl, trivial⟩⟩ rfl (zt_X13_typeArguments_p83 hL  h)
    · skip
      refine kz_iload_n (M := kt_M568) kX13_typeArguments_c5.2.2.1 rfl ?_
      refine kz_if_lt (M := kt_M568) kX13_typeArguments_c5.2.2.2.1 (t := 95) rfl h (fun h => ?_) (fun h => ?_)
      · skip
        exact kz_weak [(0, .ref (w_adr E.2.1 12 0))] ⟨rfl, trivial⟩ rfl (zt_X13_typeArguments_p95 hL  h)
      · skip
        exact kz_weak [(0, .ref (w_adr E.2.1 12 0)), (1, .int x1)] ⟨rfl, ⟨rfl, trivial⟩⟩ rfl (zt_X13_typeArguments_p83 hL  h)
  · skip
    refine kz_aload_n (M := kt_M568) kX13_typeArguments_c3.2.2.2.2.2.2.1 rfl ?_
    refine kz_iload (M := kt_M568) kX13_typeArguments_c3.2.2.2.2.2.2.2.1 rfl ?_
    refine kz_cv1 (M := kt_M568) (c := 12) (o := 0) (As := [.int x5]) (rest := []) kX13_typeArguments_c4.1 wl_X13_853 wMv_576 rfl (.inl rfl) rfl (Nat.le_trans (Nat.le_of_ble_eq_true rfl) hL) (Nat.le_of_ble_eq_true rfl) (Nat.le_of_ble_eq_true rfl) h (fun v2 w1 hle h => ?_) (fun _ _ _ h => kzx_no rfl h)
    have h := h hle
    refine kz_sti (M := kt_M568) [(0, .ref (w_adr E.2.1 12 0)), (1, .int x1), (3, .int x3), (4, .int x4), (5, .int x5)] kX13_typeArguments_c4.2.1 (Nat.le_of_ble_eq_true rfl) ⟨⟨rfl, rfl, .inl rfl⟩, ⟨⟨rfl, rfl, .inl rfl⟩, ⟨⟨rfl, rfl, .inl rfl⟩, ⟨⟨rfl, rfl, .inl rfl⟩, ⟨⟨rfl, rfl, .inr rfl⟩, trivial⟩⟩⟩⟩⟩ rfl ?_
    refine kz_aload_n (M := kt_M568) kX13_typeArguments_c4.2.2.1 rfl ?_
    refine kz_gfc (M := kt_M568) (x := 4104) (c := 12) (o := 0) kX13_typeArguments_c4.2.2.2.1 wf_X13_205 (.inl rfl) ?_
    refine kz_iload (M := kt_M568) kX13_typeArguments_c4.2.2.2.2.1 rfl ?_
    refine kz_iald (M := kt_M568) (c := 12) (o := 0) (k := 32) (a := (E.2.1 4104)) kX13_typeArguments_c4.2.2.2.2.2.1 ow_12_0_32 oa_12_0_32 ot_0 h (fun h => ?_)
    refine kz_sti (M := kt_M568) [(0, .ref (w_adr E.2.1 12 0)), (1, .int x1), (3, .int x3), (4, .int x4)] kX13_typeArguments_c4.2.2.2.2.2.2.1 (Nat.le_of_ble_eq_true rfl) ⟨⟨rfl, rfl, .inl rfl⟩, ⟨⟨rfl, rfl, .inl rfl⟩, ⟨⟨rfl, rfl, .inl rfl⟩, ⟨⟨rfl, rfl, .inr rfl⟩, trivial⟩⟩⟩⟩ rfl ?_
    refine kz_goto (M := kt_M568) kX13_typeArguments_c4.2.2.2.2.2.2.2.1 (t := 49) rfl ?_
    exact kz_weak [(0, .ref (w_adr E.2.1 12 0)), (1, .int x1), (3, .int x3), (4, .int x4), (5, .int (w_a w1 12 0 32 (x5).toNatClampNeg))] ⟨rfl, ⟨rfl, ⟨rfl, ⟨rfl, ⟨rfl, trivial⟩⟩⟩⟩⟩ rfl h
def zb_X13_typeArguments_p45 (E : zE) (L : Nat) (Q : kx_Rs → wS → Prop) (x1 : Int32) (x3 : Int32) (x4 : Int32) (w : wS) : Prop := zL_X13_typeArguments_p49 E L Q x1 x3 x4 x4 w
theorem zt_X13_typeArguments_p45 {E : zE} {L : Nat} {Q : kx_Rs → wS → Prop} {x1 : Int32} {x3 : Int32} {x4 : Int32} {w : wS} (hL : 29 ≤ L) (h : zb_X13_typeArguments_p45 E L Q x1 x3 x4 w) : kzE E L kt_M568 45 [(0, .ref (w_adr E.2.1 12 0)), (1, .int x1), (3, .int x3), (4, .int x4)] [] w Q := by
  unfold zb_X13_typeArguments_p45 at h
  refine kz_iload (M := kt_M568) kX13_typeArguments_c3.2.2.1 rfl ?_
  refine kz_sti (M := kt_M568) [(0, .ref (w_adr E.2.1 12 0)), (1, .int x1), (3, .int x3), (4, .int x4)] kX13_typeArguments_c3.2.2.2.1 (Nat.le_of_ble_eq_true rfl) ⟨⟨rfl, rfl, .inl rfl⟩, ⟨⟨rfl, rfl, .inl rfl⟩, ⟨⟨rfl, rfl, .inl rfl⟩, ⟨⟨rfl, rfl, .inr rfl⟩, trivial⟩⟩⟩⟩ rfl ?_
  exact kz_weak [(0, .ref (w_adr E.2.1 12 0)), (1, .int x1), (3, .int x3), (4, .int x4), (5, .int x4)] ⟨rfl, ⟨rfl, ⟨rfl, ⟨rfl, ⟨rfl, trivial⟩⟩⟩⟩⟩ rfl h
def zb_X13_typeArguments_p10 (E : zE) (L : Nat) (Q : kx_Rs → wS → Prop) (x1 : Int32) (x3 : Int32) (x4 : Int32) (w : wS) : Prop := (if x4 < 0 then zb_X13_typeArguments_p45 E L Q x1 x3 x4 w else (if x3 < 0 then zb_X13_typeArguments_p45 E L Q x1 x3 x4 w else zw E (L - 29) kt_M567 [.ref (w_adr E.2.1 12 0), .int x4, .int x3] w (wk0 (fun w1 => wle w w1 → (kx_inb x3 (w_n w1 12 0 32) = true ∧ (kx_inb x4 (w_n w1 12 0 32) = true ∧ zL_X13_typeArguments_p10 E L Q x1 (w_a w1 12 0 32 (x3).toNatClampNeg) (w_a w1 12 0 32 (x4).toNatClampNeg) w1))) (fun e w => Q (.inr e) w))))
theorem zt_X13_typeArguments_p10 {E : zE} {L : Nat} {Q : kx_Rs → wS → Prop} {x1 : Int32} {x3 : Int32} {x4 : Int32} {w : wS} (hL : 29 ≤ L) (h : zb_X13_typeArguments_p10 E L Q x1 x3 x4 w) : kzE E L kt_M568 10 [(0, .ref (w_adr E.2.1 12 0)), (1, .int x1), (3, .int x3), (4, .int x4)] [] w Q := by
  unfold zb_X13_typeArguments_p10 at h
  refine kz_iload (M := kt_M568) kX13_typeArguments_c0.2.2.2.2.2.2.2.1 rfl ?_
  refine kz_if_lt (M := kt_M568) kX13_typeArguments_c1.1 (t := 45) rfl h (fun h => ?_) (fun h => ?_)
  · skip
    exact kz_weak [(0, .ref (w_adr E.2.1 12 0)), (1, .int x1), (3, .int x3), (4, .int x4)] ⟨rfl, ⟨rfl, ⟨rfl, ⟨rfl, trivial⟩⟩⟩⟩ rfl (zt_X13_typeArguments_p45 hL  h)
  · skip
    refine kz_iload_n (M := kt_M568) kX13_typeArguments_c1.2.1 rfl ?_
    refine kz_if_lt (M := kt_M568) kX13_typeArguments_c1.2.2.1 (t := 45) rfl h (fun h => ?_) (fun h => ?_)
    · skip
      exact kz_weak [(0, .ref (w_adr E.2.1 12 0)), (1, .int x1), (3, .int x3), (4, .int x4)] ⟨rfl, ⟨rfl, ⟨rfl, ⟨rfl, trivial⟩⟩⟩⟩ rfl (zt_X13_typeArguments_p45 hL  h)
    · skip
      refine kz_aload_n (M := kt_M568) kX13_typeArguments_c1.2.2.2.1 rfl ?_
      refine kz_iload (M := kt_M568) kX13_typeArguments_c1.2.2.2.2.1 rfl ?_
      refine kz_iload_n (M := kt_M568) kX13_typeArguments_c1.2.2.2.2.2.1 rfl ?_
      refine kz_cv0 (M := kt_M568) (c := 12) (o := 0) (As := [.int x4, .int x3]) (rest := []) kX13_typeArguments_c1.2.2.2.2.2.2.1 wl_X13_889 wMv_567 rfl (.inl rfl) rfl (Nat.le_trans (Nat.le_of_ble_eq_true rfl) hL) (Nat.le_of_ble_eq_true rfl) (Nat.le_of_ble_eq_true rfl) h (fun w1 hle h => ?_) (fun _ _ _ h => kzx_no rfl h)
      have h := h hle
      refine kz_aload_n (M := kt_M568) kX13_typeArguments_c1.2.2.2.2.2.2.2.1 rfl ?_
      refine kz_gfc (M := kt_M568) (x := 4104) (c := 12) (o := 0) kX13_typeArguments_c2.1 wf_X13_205 (.inl rfl) ?_
      refine kz_iload_n (M := kt_M568) kX13_typeArguments_c2.2.1 rfl ?_
      refine kz_iald (M := kt_M568) (c := 12) (o := 0) (k := 32) (a := (E.2.1 4104)) kX13_typeArguments_c2.2.2.1 ow_12_0_32 oa_12_0_32 ot_0 h (fun h => ?_)
      refine kz_sti_n (M := kt_M568) [(0, .ref (w_adr E.2.1 12 0)), (1, .int x1), (4, .int x4)] kX13_typeArguments_c2.2.2.2.1 (Nat.le_of_ble_eq_true rfl) ⟨⟨rfl, rfl, .inl rfl⟩, ⟨⟨rfl, rfl, .inl rfl⟩, ⟨⟨rfl, rfl, .inl rfl⟩, trivial⟩⟩⟩ rfl ?_
      refine kz_aload_n (M := kt_M568) kX13_typeArguments_c2.2.2.2.2.1 rfl ?_
      refine kz_gfc (M := kt_M568) (x := 4104) (c := 12) (o := 0) kX13_typeArguments_c2.2.2.2.2.2.1 wf_X13_205 (.inl rfl) ?_
      refine kz_iload (M := kt_M568) kX13_typeArguments_c2.2.2.2.2.2.2.1 rfl ?_
      refine kz_iald (M := kt_M568) (c := 12) (o := 0) (k := 32) (a := (E.2.1 4104)) kX13_typeArguments_c2.2.2.2.2.2.2.2.1 ow_12_0_32 oa_12_0_32 ot_0 h (fun h => ?_)
      refine kz_sti (M := kt_M568) [(0, .ref (w_adr E.2.1 12 0)), (1, .int x1), (3, .int (w_a w1 12 0 32 (x3).toNatClampNeg))] kX13_typeArguments_c3.1 (Nat.le_of_ble_eq_true rfl) ⟨⟨rfl, rfl, .inl rfl⟩, ⟨⟨rfl, rfl, .inl rfl⟩, ⟨⟨rfl, rfl, .inr rfl⟩, trivial⟩⟩⟩ rfl ?_
      refine kz_goto (M := kt_M568) kX13_typeArguments_c3.2.1 (t := 10) rfl ?_
      exact kz_weak [(0, .ref (w_adr E.2.1 12 0)), (1, .int x1), (3, .int (w_a w1 12 0 32 (x3).toNatClampNeg)), (4, .int (w_a w1 12 0 32 (x4).toNatClampNeg))] ⟨rfl, ⟨rfl, ⟨rfl, ⟨rfl, trivial⟩⟩⟩⟩ rfl h
def zb_X13_typeArguments_p0 (E : zE) (L : Nat) (Q : kx_Rs → wS → Prop) (x1 : Int32) (x2 : Int32) (w : wS) : Prop := (kx_inb x1 (w_n w 12 0 28) = true ∧ zL_X13_typeArguments_p10 E L Q x1 x2 (w_a w 12 0 28 (x1).toNatClampNeg) w)
theorem zt_X13_typeArguments_p0 {E : zE} {L : Nat} {Q : kx_Rs → wS → Prop} {x1 : Int32} {x2 : Int32} {w : wS} (hL : 29 ≤ L) (h : zb_X13_typeArguments_p0 E L Q x1 x2 w) : kzE E L kt_M568 0 [(0, .ref (w_adr E.2.1 12 0)), (1, .int x1), (2, .int x2)] [] w Q := by
  unfold zb_X13_typeArguments_p0 at h
  refine kz_iload_n (M := kt_M568) kX13_typeArguments_c0.1 rfl ?_
  refine kz_sti_n (M := kt_M568) [(0, .ref (w_adr E.2.1 12 0)), (1, .int x1)] kX13_typeArguments_c0.2.1 (Nat.le_of_ble_eq_true rfl) ⟨⟨rfl, rfl, .inl rfl⟩, ⟨⟨rfl, rfl, .inl rfl⟩, trivial⟩⟩ rfl ?_
  refine kz_aload_n (M := kt_M568) kX13_typeArguments_c0.2.2.1 rfl ?_
  refine kz_gfc (M := kt_M568) (x := 4100) (c := 12) (o := 0) kX13_typeArguments_c0.2.2.2.1 wf_X13_193 (.inl rfl) ?_
  refine kz_iload_n (M := kt_M568) kX13_typeArguments_c0.2.2.2.2.1 rfl ?_
  refine kz_iald (M := kt_M568) (c := 12) (o := 0) (k := 28) (a := (E.2.1 4100)) kX13_typeArguments_c0.2.2.2.2.2.1 ow_12_0_28 oa_12_0_28 ot_0 h (fun h => ?_)
  refine kz_sti (M := kt_M568) [(0, .ref (w_adr E.2.1 12 0)), (1, .int x1), (3, .int x2)] kX13_typeArguments_c0.2.2.2.2.2.2.1 (Nat.le_of_ble_eq_true rfl) ⟨⟨rfl, rfl, .inl rfl⟩, ⟨⟨rfl, rfl, .inl rfl⟩, ⟨⟨rfl, rfl, .inr rfl⟩, trivial⟩⟩⟩ rfl ?_
  exact kz_weak [(0, .ref (w_adr E.2.1 12 0)), (1, .int x1), (3, .int x2), (4, .int (w_a w 12 0 28 (x1).toNatClampNeg))] ⟨rfl, ⟨rfl, ⟨rfl, ⟨rfl, trivial⟩⟩⟩⟩ rfl h
def zb_X13_typeArgument_p260 (E : zE) (L : Nat) (Q : kx_Rs → wS → Prop) (w : wS) : Prop := Q (.inl none) w
theorem zt_X13_typeArgument_p260 {E : zE} {L : Nat} {Q : kx_Rs → wS → Prop} {w : wS} (hL : 23 ≤ L) (h : zb_X13_typeArgument_p260 E L Q  w) : kzE E L kt_M567 260 [(0, .ref (w_adr E.2.1 12 0))] [] w Q := by
  unfold zb_X13_typeArgument_p260 at h
  exact kz_ret (M := kt_M567) kX13_typeArgument_c18.2.1 rfl h
def zb_X13_typeArgument_p241 (E : zE) (L : Nat) (Q : kx_Rs → wS → Prop) (x1 : Int32) (y0 : Int32) (w : wS) : Prop := (if ¬ y0 = 0 then zb_X13_typeArgument_p260 E L Q w else (kx_inb x1 (w_n w 12 0 27) = true ∧ zw E (L - 22) kt_M560 [.ref (w_adr E.2.1 12 0), .int 7, .int (w_a w 12 0 27 (x1).toNatClampNeg)] w (wk0 (fun w1 => wle w w1 → zb_X13_typeArgument_p260 E L Q w1) (fun e w => Q (.inr e) w))))
theorem zt_X13_typeArgument_p241 {E : zE} {L : Nat} {Q : kx_Rs → wS → Prop} {x1 : Int32} {y0 : Int32} {w : wS} (hL : 23 ≤ L) (h : zb_X13_typeArgument_p241 E L Q x1 y0 w) : kzE E L kt_M567 241 [(0, .ref (w_adr E.2.1 12 0)), (1, .int x1)] [.int y0] w Q := by
  unfold zb_X13_typeArgument_p241 at h
  refine kz_sti (M := kt_M567) [(0, .ref (w_adr E.2.1 12 0)), (1, .int x1)] kX13_typeArgument_c16.2.2.2.2.2.2.2.1 (Nat.le_of_ble_eq_true rfl) ⟨⟨rfl, rfl, .inl rfl⟩, ⟨⟨rfl, rfl, .inl rfl⟩, trivial⟩⟩ rfl ?_
  refine kz_iload (M := kt_M567) kX13_typeArgument_c17.1 rfl ?_
  refine kz_if_ne (M := kt_M567) kX13_typeArgument_c17.2.1 (t := 260) rfl h (fun h => ?_) (fun h => ?_)
  · skip
    exact kz_weak [(0, .ref (w_adr E.2.1 12 0))] ⟨rfl, trivial⟩ rfl (zt_X13_typeArgument_p260 hL  h)
  · skip
    refine kz_aload_n (M := kt_M567) kX13_typeArgument_c17.2.2.1 rfl ?_
    refine kz_bi (M := kt_M567) 7 kX13_typeArgument_c17.2.2.2.1 rfl ?_
    refine kz_aload_n (M := kt_M567) kX13_typeArgument_c17.2.2.2.2.1 rfl ?_
    refine kz_gfc (M := kt_M567) (x := 4099) (c := 12) (o := 0) kX13_typeArgument_c17.2.2.2.2.2.1 wf_X13_190 (.inl rfl) ?_
    refine kz_iload_n (M := kt_M567) kX13_typeArgument_c17.2.2.2.2.2.2.1 rfl ?_
    refine kz_iald (M := kt_M567) (c := 12) (o := 0) (k := 27) (a := (E.2.1 4099)) kX13_typeArgument_c17.2.2.2.2.2.2.2.1 ow_12_0_27 oa_12_0_27 ot_0 h (fun h => ?_)
    refine kz_cv0 (M := kt_M567) (c := 12) (o := 0) (As := [.int 7, .int (w_a w 12 0 27 (x1).toNatClampNeg)]) (rest := []) kX13_typeArgument_c18.1 wl_X13_734 wMv_560 rfl (.inl rfl) rfl (Nat.le_trans (Nat.le_of_ble_eq_true rfl) hL) (Nat.le_of_ble_eq_true rfl) (Nat.le_of_ble_eq_true rfl) h (fun w1 hle h => ?_) (fun _ _ _ h => kzx_no rfl h)
    have h := h hle
    exact kz_weak [(0, .ref (w_adr E.2.1 12 0))] ⟨rfl, trivial⟩ rfl (zt_X13_typeArgument_p260 hL  h)
def zb_X13_typeArgument_p240 (E : zE) (L : Nat) (Q : kx_Rs → wS → Prop) (x1 : Int32) (w : wS) : Prop := zb_X13_typeArgument_p241 E L Q x1 0 w
theorem zt_X13_typeArgument_p240 {E : zE} {L : Nat} {Q : kx_Rs → wS → Prop} {x1 : Int32} {w : wS} (hL : 23 ≤ L) (h : zb_X13_typeArgument_p240 E L Q x1 w) : kzE E L kt_M567 240 [(0, .ref (w_adr E.2.1 12 0)), (1, .int x1)] [] w Q := by
  unfold zb_X13_typeArgument_p240 at h
  refine kz_ic (M := kt_M567) 0 kX13_typeArgument_c16.2.2.2.2.2.2.1 rfl ?_
  exact kz_weak [(0, .ref (w_adr E.2.1 12 0)), (1, .int x1)] ⟨rfl, ⟨rfl, trivial⟩⟩ rfl (zt_X13_typeArgument_p241 hL  h)
def zb_X13_typeArgument_p236 (E : zE) (L : Nat) (Q : kx_Rs → wS → Prop) (x1 : Int32) (w : wS) : Prop := zb_X13_typeArgument_p241 E L Q x1 1 w
theorem zt_X13_typeArgument_p236 {E : zE} {L : Nat} {Q : kx_Rs → wS → Prop} {x1 : Int32} {w : wS} (hL : 23 ≤ L) (h : zb_X13_typeArgument_p236 E L Q x1 w) : kzE E L kt_M567 236 [(0, .ref (w_adr E.2.1 12 0)), (1, .int x1)] [] w Q := by
  unfold zb_X13_typeArgument_p236 at h
  refine kz_ic (M := kt_M567) 1 kX13_typeArgument_c16.2.2.2.2.1 rfl ?_
  refine kz_goto (M := kt_M567) kX13_typeArgument_c16.2.2.2.2.2.1 (t := 241) rfl ?_
  exact kz_weak [(0, .ref (w_adr E.2.1 12 0)), (1, .int x1)] ⟨rfl, ⟨rfl, trivial⟩⟩ rfl (zt_X13_typeArgument_p241 hL  h)
def zb_X13_typeArgument_p233 (E : zE) (L : Nat) (Q : kx_Rs → wS → Prop) (x1 : Int32) (y0 : Int32) (y1 : Int32) (w : wS) : Prop := (if ¬ y1 = y0 then zb_X13_typeArgument_p240 E L Q x1 w else zb_X13_typeArgument_p236 E L Q x1 w)
theorem zt_X13_typeArgument_p233 {E : zE} {L : Nat} {Q : kx_Rs → wS → Prop} {x1 : Int32} {y0 : Int32} {y1 : Int32} {w : wS} (hL : 23 ≤ L) (h : zb_X13_typeArgument_p233 E L Q x1 y0 y1 w) : kzE E L kt_M567 233 [(0, .ref (w_adr E.2.1 12 0)), (1, .int x1)] [.int y0, .int y1] w Q := by
  unfold zb_X13_typeArgument_p233 at h
  refine kz_icmp_ne (M := kt_M567) kX13_typeArgument_c16.2.2.2.1 (t := 240) rfl h (fun h => ?_) (fun h => ?_)
  · skip
    exact kz_weak [(0, .ref (w_adr E.2.1 12 0)), (1, .int x1)] ⟨rfl, ⟨rfl, trivial⟩⟩ rfl (zt_X13_typeArgument_p240 hL  h)
  · skip
    exact kz_weak [(0, .ref (w_adr E.2.1 12 0)), (1, .int x1)] ⟨rfl, ⟨rfl, trivial⟩⟩ rfl (zt_X13_typeArgument_p236 hL  h)
def zb_X13_typeArgument_p223 (E : zE) (L : Nat) (Q : kx_Rs → wS → Prop) (x1 : Int32) (x7 : Int32) (y0 : Int32) (w : wS) : Prop := (if ¬ x7 = 0 then zb_X13_typeArgument_p233 E L Q x1 0 y0 w else zb_X13_typeArgument_p233 E L Q x1 1 y0 w)
theorem zt_X13_typeArgument_p223 {E : zE} {L : Nat} {Q : kx_Rs → wS → Prop} {x1 : Int32} {x7 : Int32} {y0 : Int32} {w : wS} (hL : 23 ≤ L) (h : zb_X13_typeArgument_p223 E L Q x1 x7 y0 w) : kzE E L kt_M567 223 [(0, .ref (w_adr E.2.1 12 0)), (1, .int x1), (7, .int x7)] [.int y0] w Q := by
  unfold zb_X13_typeArgument_p223 at h
  refine kz_iload (M := kt_M567) kX13_typeArgument_c15.2.2.2.2.2.2.1 rfl ?_
  refine kz_if_ne (M := kt_M567) kX13_typeArgument_c15.2.2.2.2.2.2.2.1 (t := 232) rfl h (fun h => ?_) (fun h => ?_)
  · skip
    refine kz_ic (M := kt_M567) 0 kX13_typeArgument_c16.2.2.1 rfl ?_
    exact kz_weak [(0, .ref (w_adr E.2.1 12 0)), (1, .int x1)] ⟨rfl, ⟨rfl, trivial⟩⟩ rfl (zt_X13_typeArgument_p233 hL  h)
  · skip
    refine kz_ic (M := kt_M567) 1 kX13_typeArgument_c16.1 rfl ?_
    refine kz_goto (M := kt_M567) kX13_typeArgument_c16.2.1 (t := 233) rfl ?_
    exact kz_weak [(0, .ref (w_adr E.2.1 12 0)), (1, .int x1)] ⟨rfl, ⟨rfl, trivial⟩⟩ rfl (zt_X13_typeArgument_p233 hL  h)
def zb_X13_typeArgument_p206 (E : zE) (L : Nat) (Q : kx_Rs → wS → Prop) (x1 : Int32) (x4 : Int32) (x5 : Int32) (x7 : Int32) (w : wS) : Prop := (if x4 = (-1) then zb_X13_typeArgument_p236 E L Q x1 w else (if ¬ x5 = (-1) then zb_X13_typeArgument_p223 E L Q x1 x7 0 w else zb_X13_typeArgument_p223 E L Q x1 x7 1 w))
theorem zt_X13_typeArgument_p206 {E : zE} {L : Nat} {Q : kx_Rs → wS → Prop} {x1 : Int32} {x4 : Int32} {x5 : Int32} {x7 : Int32} {w : wS} (hL : 23 ≤ L) (h : zb_X13_typeArgument_p206 E L Q x1 x4 x5 x7 w) : kzE E L kt_M567 206 [(0, .ref (w_adr E.2.1 12 0)), (1, .int x1), (4, .int x4), (5, .int x5), (7, .int x7)] [] w Q := by
  unfold zb_X13_typeArgument_p206 at h
  refine kz_iload (M := kt_M567) kX13_typeArgument_c14.2.2.2.2.2.1 rfl ?_
  refine kz_ic (M := kt_M567) (-1) kX13_typeArgument_c14.2.2.2.2.2.2.1 rfl ?_
  refine kz_icmp_eq (M := kt_M567) kX13_typeArgument_c14.2.2.2.2.2.2.2.1 (t := 236) rfl h (fun h => ?_) (fun h => ?_)
  · skip
    exact kz_weak [(0, .ref (w_adr E.2.1 12 0)), (1, .int x1)] ⟨rfl, ⟨rfl, trivial⟩⟩ rfl (zt_X13_typeArgument_p236 hL  h)
  · skip
    refine kz_iload (M := kt_M567) kX13_typeArgument_c15.1 rfl ?_
    refine kz_ic (M := kt_M567) (-1) kX13_typeArgument_c15.2.1 rfl ?_
    refine kz_icmp_ne (M := kt_M567) kX13_typeArgument_c15.2.2.1 (t := 222) rfl h (fun h => ?_) (fun h => ?_)
    · skip
      refine kz_ic (M := kt_M567) 0 kX13_typeArgument_c15.2.2.2.2.2.1 rfl ?_
      exact kz_weak [(0, .ref (w_adr E.2.1 12 0)), (1, .int x1), (7, .int x7)] ⟨rfl, ⟨rfl, ⟨rfl, trivial⟩⟩⟩ rfl (zt_X13_typeArgument_p223 hL  h)
    · skip
      refine kz_ic (M := kt_M567) 1 kX13_typeArgument_c15.2.2.2.1 rfl ?_
      refine kz_goto (M := kt_M567) kX13_typeArgument_c15.2.2.2.2.1 (t := 223) rfl ?_
      exact kz_weak [(0, .ref (w_adr E.2.1 12 0)), (1, .int x1), (7, .int x7)] ⟨rfl, ⟨rfl, ⟨rfl, trivial⟩⟩⟩ rfl (zt_X13_typeArgument_p223 hL  h)
def zb_X13_typeArgument_p174 (E : zE) (L : Nat) (Q : kx_Rs → wS → Prop) (x1 : Int32) (x3 : Int32) (x4 : Int32) (x5 : Int32) (x7 : Int32) (x8 : Int32) (w : wS) : Prop := (if x8 = 0 then zb_X13_typeArgument_p240 E L Q x1 w else (if x4 = (-1) then zb_X13_typeArgument_p206 E L Q x1 x4 x5 x7 w else (kx_inb x3 (w_n w 12 0 47) = true ∧ (if w_a w 12 0 47 (x3).toNatClampNeg = (-1) then zb_X13_typeArgument_p206 E L Q x1 x4 x5 x7 w else (kx_inb x3 (w_n w 12 0 47) = true ∧ (if ¬ x4 = w_a w 12 0 47 (x3).toNatClampNeg then zb_X13_typeArgument_p240 E L Q x1 w else zb_X13_typeArgument_p206 E L Q x1 x4 x5 x7 w))))))
theorem zt_X13_typeArgument_p174 {E : zE} {L : Nat} {Q : kx_Rs → wS → Prop} {x1 : Int32} {x3 : Int32} {x4 : Int32} {x5 : Int32} {x7 : Int32} {x8 : Int32} {w : wS} (hL : 23 ≤ L) (h : zb_X13_typeArgument_p174 E L Q x1 x3 x4 x5 x7 x8 w) : kzE E L kt_M567 174 [(0, .ref (w_adr E.2.1 12 0)), (1, .int x1), (3, .int x3), (4, .int x4), (5, .int x5), (7, .int x7), (8, .int x8)] [] w Q := by
  unfold zb_X13_typeArgument_p174 at h
  refine kz_iload (M := kt_M567) kX13_typeArgument_c12.2.2.2.2.1 rfl ?_
  refine kz_if_eq (M := kt_M567) kX13_typeArgument_c12.2.2.2.2.2.1 (t := 240) rfl h (fun h => ?_) (fun h => ?_)
  · skip
    exact kz_weak [(0, .ref (w_adr E.2.1 12 0)), (1, .int x1)] ⟨rfl, ⟨rfl, trivial⟩⟩ rfl (zt_X13_typeArgument_p240 hL  h)
  · skip
    refine kz_iload (M := kt_M567) kX13_typeArgument_c12.2.2.2.2.2.2.1 rfl ?_
    refine kz_ic (M := kt_M567) (-1) kX13_typeArgument_c12.2.2.2.2.2.2.2.1 rfl ?_
    refine kz_icmp_eq (M := kt_M567) kX13_typeArgument_c13.1 (t := 206) rfl h (fun h => ?_) (fun h => ?_)
    · skip
      exact kz_weak [(0, .ref (w_adr E.2.1 12 0)), (1, .int x1), (4, .int x4), (5, .int x5), (7, .int x7)] ⟨rfl, ⟨rfl, ⟨rfl, ⟨rfl, ⟨rfl, trivial⟩⟩⟩⟩⟩ rfl (zt_X13_typeArgument_p206 hL  h)
    · skip
      refine kz_aload_n (M := kt_M567) kX13_typeArgument_c13.2.1 rfl ?_
      refine kz_gfc (M := kt_M567) (x := 4119) (c := 12) (o := 0) kX13_typeArgument_c13.2.2.1 wf_X13_226 (.inl rfl) ?_
      refine kz_iload_n (M := kt_M567) kX13_typeArgument_c13.2.2.2.1 rfl ?_
      refine kz_iald (M := kt_M567) (c := 12) (o := 0) (k := 47) (a := (E.2.1 4119)) kX13_typeArgument_c13.2.2.2.2.1 ow_12_0_47 oa_12_0_47 ot_0 h (fun h => ?_)
      refine kz_ic (M := kt_M567) (-1) kX13_typeArgument_c13.2.2.2.2.2.1 rfl ?_
      refine kz_icmp_eq (M := kt_M567) kX13_typeArgument_c13.2.2.2.2.2.2.1 (t := 206) rfl h (fun h => ?_) (fun h => ?_)
      · skip
        exact kz_weak [(0, .ref (w_adr E.2.1 12 0)), (1, .int x1), (4, .int x4), (5, .int x5), (7, .int x7)] ⟨rfl, ⟨rfl, ⟨rfl, ⟨rfl, ⟨rfl, trivial⟩⟩⟩⟩⟩ rfl (zt_X13_typeArgument_p206 hL  h)
      · skip
        refine kz_iload (M := kt_M567) kX13_typeArgument_c13.2.2.2.2.2.2.2.1 rfl ?_
        refine kz_aload_n (M := kt_M567) kX13_typeArgument_c14.1 rfl ?_
        refine kz_gfc (M := kt_M567) (x := 4119) (c := 12) (o := 0) kX13_typeArgument_c14.2.1 wf_X13_226 (.inl rfl) ?_
        refine kz_iload_n (M := kt_M567) kX13_typeArgument_c14.2.2.1 rfl ?_
        refine kz_iald (M := kt_M567) (c := 12) (o := 0) (k := 47) (a := (E.2.1 4119)) kX13_typeArgument_c14.2.2.2.1 ow_12_0_47 oa_12_0_47 ot_0 h (fun h => ?_)
        refine kz_icmp_ne (M := kt_M567) kX13_typeArgument_c14.2.2.2.2.1 (t := 240) rfl h (fun h => ?_) (fun h => ?_)
        · skip
          exact kz_weak [(0, .ref (w_adr E.2.1 12 0)), (1, .int x1)] ⟨rfl, ⟨rfl, trivial⟩⟩ rfl (zt_X13_typeArgument_p240 hL  h)
        · skip
          exact kz_weak [(0, .ref (w_adr E.2.1 12 0)), (1, .int x1), (4, .int x4), (5, .int x5), (7, .int x7)] ⟨rfl, ⟨rfl, ⟨rfl, ⟨rfl, ⟨rfl, trivial⟩⟩⟩⟩⟩ rfl (zt_X13_typeArgument_p206 hL  h)
def zb_X13_typeArgument_p131 (E : zE) (L : Nat) (Q : kx_Rs → wS → Prop) (x1 : Int32) (x3 : Int32) (x4 : Int32) (x5 : Int32) (x7 : Int32) (y0 : Int32) (w : wS) : Prop := zb_X13_typeArgument_p174 E L Q x1 x3 x4 x5 x7 y0 w
theorem zt_X13_typeArgument_p131 {E : zE} {L : Nat} {Q : kx_Rs → wS → Prop} {x1 : Int32} {x3 : Int32} {x4 : Int32} {x5 : Int32} {x7 : Int32} {y0 : Int32} {w : wS} (hL : 23 ≤ L) (h : zb_X13_typeArgument_p131 E L Q x1 x3 x4 x5 x7 y0 w) : kzE E L kt_M567 131 [(0, .ref (w_adr E.2.1 12 0)), (1, .int x1), (3, .int x3), (4, .int x4), (5, .int x5), (7, .int x7)] [.int y0] w Q := by
  unfold zb_X13_typeArgument_p131 at h
  refine kz_sti (M := kt_M567) [(0, .ref (w_adr E.2.1 12 0)), (1, .int x1), (3, .int x3), (4, .int x4), (5, .int x5), (7, .int x7)] kX13_typeArgument_c9.2.2.2.2.1 (Nat.le_of_ble_eq_true rfl) ⟨⟨rfl, rfl, .inl rfl⟩, ⟨⟨rfl, rfl, .inl rfl⟩, ⟨⟨rfl, rfl, .inl rfl⟩, ⟨⟨rfl, rfl, .inl rfl⟩, ⟨⟨rfl, rfl, .inl rfl⟩, ⟨⟨rfl, rfl, .inr rfl⟩, trivial⟩⟩⟩⟩⟩⟩ rfl ?_
  refine kz_goto (M := kt_M567) kX13_typeArgument_c9.2.2.2.2.2.1 (t := 174) rfl ?_
  exact kz_weak [(0, .ref (w_adr E.2.1 12 0)), (1, .int x1), (3, .int x3), (4, .int x4), (5, .int x5), (7, .int x7), (8, .int y0)] ⟨rfl, ⟨rfl, ⟨rfl, ⟨rfl, ⟨rfl, ⟨rfl, ⟨rfl, trivial⟩⟩⟩⟩⟩⟩⟩ rfl (zt_X13_typeArgument_p174 hL  h)
def zb_X13_typeArgument_p130 (E : zE) (L : Nat) (Q : kx_Rs → wS → Prop) (x1 : Int32) (x3 : Int32) (x4 : Int32) (x5 : Int32) (x7 : Int32) (w : wS) : Prop := zb_X13_typeArgument_p131 E L Q x1 x3 x4 x5 x7 0 w
theorem zt_X13_typeArgument_p130 {E : zE} {L : Nat} {Q : kx_Rs → wS → Prop} {x1 : Int32} {x3 : Int32} {x4 : Int32} {x5 : Int32} {x7 : Int32} {w : wS} (hL : 23 ≤ L) (h : zb_X13_typeArgument_p130 E L Q x1 x3 x4 x5 x7 w) : kzE E L kt_M567 130 [(0, .ref (w_adr E.2.1 12 0)), (1, .int x1), (3, .int x3), (4, .int x4), (5, .int x5), (7, .int x7)] [] w Q := by
  unfold zb_X13_typeArgument_p130 at h
  refine kz_ic (M := kt_M567) 0 kX13_typeArgument_c9.2.2.2.1 rfl ?_
  exact kz_weak [(0, .ref (w_adr E.2.1 12 0)), (1, .int x1), (3, .int x3), (4, .int x4), (5, .int x5), (7, .int x7)] ⟨rfl, ⟨rfl, ⟨rfl, ⟨rfl, ⟨rfl, ⟨rfl, trivial⟩⟩⟩⟩⟩⟩ rfl (zt_X13_typeArgument_p131 hL  h)
def zb_X13_typeArgument_p126 (E : zE) (L : Nat) (Q : kx_Rs → wS → Prop) (x1 : Int32) (x3 : Int32) (x4 : Int32) (x5 : Int32) (x7 : Int32) (w : wS) : Prop := zb_X13_typeArgument_p131 E L Q x1 x3 x4 x5 x7 1 w
theorem zt_X13_typeArgument_p126 {E : zE} {L : Nat} {Q : kx_Rs → wS → Prop} {x1 : Int32} {x3 : Int32} {x4 : Int32} {x5 : Int32} {x7 : Int32} {w : wS} (hL : 23 ≤ L) (h : zb_X13_typeArgument_p126 E L Q x1 x3 x4 x5 x7 w) : kzE E L kt_M567 126 [(0, .ref (w_adr E.2.1 12 0)), (1, .int x1), (3, .int x3), (4, .int x4), (5, .int x5), (7, .int x7)] [] w Q := by
  unfold zb_X13_typeArgument_p126 at h
  refine kz_ic (M := kt_M567) 1 kX13_typeArgument_c9.2.1 rfl ?_
  refine kz_goto (M := kt_M567) kX13_typeArgument_c9.2.2.1 (t := 131) rfl ?_
  exact kz_weak [(0, .ref (w_adr E.2.1 12 0)), (1, .int x1), (3, .int x3), (4, .int x4), (5, .int x5), (7, .int x7)] ⟨rfl, ⟨rfl, ⟨rfl, ⟨rfl, ⟨rfl, ⟨rfl, trivial⟩⟩⟩⟩⟩⟩ rfl (zt_X13_typeArgument_p131 hL  h)
def zb_X13_typeArgument_p123 (E : zE) (L : Nat) (Q : kx_Rs → wS → Prop) (x1 : Int32) (x3 : Int32) (x4 : Int32) (x5 : Int32) (x7 : Int32) (y0 : Int32) (y1 : Int32) (w : wS) : Prop := (if ¬ y1 = y0 then zb_X13_typeArgument_p130 E L Q x1 x3 x4 x5 x7 w else zb_X13_typeArgument_p126 E L Q x1 x3 x4 x5 x7 w)
theorem zt_X13_typeArgument_p123 {E : zE} {L : Nat} {Q : kx_Rs → wS → Prop} {x1 : Int32} {x3 : Int32} {x4 : Int32} {x5 : Int32} {x7 : Int32} {y0 : Int32} {y1 : Int32} {w : wS} (hL : 23 ≤ L) (h : zb_X13_typeArgument_p123 E L Q x1 x3 x4 x5 x7 y0 y1 w) : kzE E L kt_M567 123 [(0, .ref (w_adr E.2.1 12 0)), (1, .int x1), (3, .int x3), (4, .int x4), (5, .int x5), (7, .int x7)] [.int y0, .int y1] w Q := by
  unfold zb_X13_typeArgument_p123 at h
  refine kz_icmp_ne (M := kt_M567) kX13_typeArgument_c9.1 (t := 130) rfl h (fun h => ?_) (fun h => ?_)
  · skip
    exact kz_weak [(0, .ref (w_adr E.2.1 12 0)), (1, .int x1), (3, .int x3), (4, .int x4), (5, .int x5), (7, .int x7)] ⟨rfl, ⟨rfl, ⟨rfl, ⟨rfl, ⟨rfl, ⟨rfl, trivial⟩⟩⟩⟩⟩⟩ rfl (zt_X13_typeArgument_p130 hL  h)
  · skip
    exact kz_weak [(0, .ref (w_adr E.2.1 12 0)), (1, .int x1), (3, .int x3), (4, .int x4), (5, .int x5), (7, .int x7)] ⟨rfl, ⟨rfl, ⟨rfl, ⟨rfl, ⟨rfl, ⟨rfl, trivial⟩⟩⟩⟩⟩⟩ rfl (zt_X13_typeArgument_p126 hL  h)
def zb_X13_typeArgument_p80 (E : zE) (L : Nat) (Q : kx_Rs → wS → Prop) (x1 : Int32) (x3 : Int32) (x4 : Int32) (x5 : Int32) (x7 : Int32) (y0 : Int32) (w : wS) : Prop := (kx_inb x1 (w_n w 12 0 26) = true ∧ (if ¬ w_a w 12 0 26 (x1).toNatClampNeg = 60 then zb_X13_typeArgument_p130 E L Q x1 x3 x4 x5 x7 w else (kx_inb x1 (w_n w 12 0 31) = true ∧ (if w_a w 12 0 31 (x1).toNatClampNeg < 0 then zb_X13_typeArgument_p126 E L Q x1 x3 x4 x5 x7 w else (kx_inb x1 (w_n w 12 0 31) = true ∧ (kx_inb (w_a w 12 0 31 (x1).toNatClampNeg) (w_n w 12 0 46) = true ∧ (if y0 = 0 then zb_X13_typeArgument_p123 E L Q x1 x3 x4 x5 x7 1 (w_a w 12 0 46 (w_a w 12 0 31 (x1).toNatClampNeg).toNatClampNeg) w else zb_X13_typeArgument_p123 E L Q x1 x3 x4 x5 x7 3 (w_a w 12 0 46 (w_a w 12 0 31 (x1).toNatClampNeg).toNatClampNeg) w)))))))
theorem zt_X13_typeArgument_p80 {E : zE} {L : Nat} {Q : kx_Rs → wS → Prop} {x1 : Int32} {x3 : Int32} {x4 : Int32} {x5 : Int32} {x7 : Int32} {y0 : Int32} {w : wS} (hL : 23 ≤ L) (h : zb_X13_typeArgument_p80 E L Q x1 x3 x4 x5 x7 y0 w) : kzE E L kt_M567 80 [(0, .ref (w_adr E.2.1 12 0)), (1, .int x1), (3, .int x3), (4, .int x4), (5, .int x5), (7, .int x7)] [.int y0] w Q := by
  unfold zb_X13_typeArgument_p80 at h
  refine kz_sti (M := kt_M567) [(0, .ref (w_adr E.2.1 12 0)), (1, .int x1), (3, .int x3), (4, .int x4), (5, .int x5), (7, .int x7)] kX13_typeArgument_c6.1 (Nat.le_of_ble_eq_true rfl) ⟨⟨rfl, rfl, .inl rfl⟩, ⟨⟨rfl, rfl, .inl rfl⟩, ⟨⟨rfl, rfl, .inl rfl⟩, ⟨⟨rfl, rfl, .inl rfl⟩, ⟨⟨rfl, rfl, .inl rfl⟩, ⟨⟨rfl, rfl, .inl rfl⟩, trivial⟩⟩⟩⟩⟩⟩ rfl ?_
  refine kz_aload_n (M := kt_M567) kX13_typeArgument_c6.2.1 rfl ?_
  refine kz_gfc (M := kt_M567) (x := 4098) (c := 12) (o := 0) kX13_typeArgument_c6.2.2.1 wf_X13_187 (.inl rfl) ?_
  refine kz_iload_n (M := kt_M567) kX13_typeArgument_c6.2.2.2.1 rfl ?_
  refine kz_iald (M := kt_M567) (c := 12) (o := 0) (k := 26) (a := (E.2.1 4098)) kX13_typeArgument_c6.2.2.2.2.1 ow_12_0_26 oa_12_0_26 ot_0 h (fun h => ?_)
  refine kz_bi (M := kt_M567) 60 kX13_typeArgument_c6.2.2.2.2.2.1 rfl ?_
  refine kz_icmp_ne (M := kt_M567) kX13_typeArgument_c6.2.2.2.2.2.2.1 (t := 130) rfl h (fun h => ?_) (fun h => ?_)
  · skip
    exact kz_weak [(0, .ref (w_adr E.2.1 12 0)), (1, .int x1), (3, .int x3), (4, .int x4), (5, .int x5), (7, .int x7)] ⟨rfl, ⟨rfl, ⟨rfl, ⟨rfl, ⟨rfl, ⟨rfl, trivial⟩⟩⟩⟩⟩⟩ rfl (zt_X13_typeArgument_p130 hL  h)
  · skip
    refine kz_aload_n (M := kt_M567) kX13_typeArgument_c6.2.2.2.2.2.2.2.1 rfl ?_
    refine kz_gfc (M := kt_M567) (x := 4103) (c := 12) (o := 0) kX13_typeArgument_c7.1 wf_X13_202 (.inl rfl) ?_
    refine kz_iload_n (M := kt_M567) kX13_typeArgument_c7.2.1 rfl ?_
    refine kz_iald (M := kt_M567) (c := 12) (o := 0) (k := 31) (a := (E.2.1 4103)) kX13_typeArgument_c7.2.2.1 ow_12_0_31 oa_12_0_31 ot_0 h (fun h => ?_)
    refine kz_if_lt (M := kt_M567) kX13_typeArgument_c7.2.2.2.1 (t := 126) rfl h (fun h => ?_) (fun h => ?_)
    · skip
      exact kz_weak [(0, .ref (w_adr E.2.1 12 0)), (1, .int x1), (3, .int x3), (4, .int x4), (5, .int x5), (7, .int x7)] ⟨rfl, ⟨rfl, ⟨rfl, ⟨rfl, ⟨rfl, ⟨rfl, trivial⟩⟩⟩⟩⟩⟩ rfl (zt_X13_typeArgument_p126 hL  h)
    · skip
      refine kz_aload_n (M := kt_M567) kX13_typeArgument_c7.2.2.2.2.1 rfl ?_
      refine kz_gfc (M := kt_M567) (x := 4118) (c := 12) (o := 0) kX13_typeArgument_c7.2.2.2.2.2.1 wf_X13_223 (.inl rfl) ?_
      refine kz_aload_n (M := kt_M567) kX13_typeArgument_c7.2.2.2.2.2.2.1 rfl ?_
      refine kz_gfc (M := kt_M567) (x := 4103) (c := 12) (o := 0) kX13_typeArgument_c7.2.2.2.2.2.2.2.1 wf_X13_202 (.inl rfl) ?_
      refine kz_iload_n (M := kt_M567) kX13_typeArgument_c8.1 rfl ?_
      refine kz_iald (M := kt_M567) (c := 12) (o := 0) (k := 31) (a := (E.2.1 4103)) kX13_typeArgument_c8.2.1 ow_12_0_31 oa_12_0_31 ot_0 h (fun h => ?_)
      refine kz_iald (M := kt_M567) (c := 12) (o := 0) (k := 46) (a := (E.2.1 4118)) kX13_typeArgument_c8.2.2.1 ow_12_0_46 oa_12_0_46 ot_0 h (fun h => ?_)
      refine kz_iload (M := kt_M567) kX13_typeArgument_c8.2.2.2.1 rfl ?_
      refine kz_if_eq (M := kt_M567) kX13_typeArgument_c8.2.2.2.2.1 (t := 122) rfl h (fun h => ?_) (fun h => ?_)
      · skip
        refine kz_ic (M := kt_M567) 1 kX13_typeArgument_c8.2.2.2.2.2.2.2.1 rfl ?_
        exact kz_weak [(0, .ref (w_adr E.2.1 12 0)), (1, .int x1), (3, .int x3), (4, .int x4), (5, .int x5), (7, .int x7)] ⟨rfl, ⟨rfl, ⟨rfl, ⟨rfl, ⟨rfl, ⟨rfl, trivial⟩⟩⟩⟩⟩⟩ rfl (zt_X13_typeArgument_p123 hL  h)
      · skip
        refine kz_ic (M := kt_M567) 3 kX13_typeArgument_c8.2.2.2.2.2.1 rfl ?_
        refine kz_goto (M := kt_M567) kX13_typeArgument_c8.2.2.2.2.2.2.1 (t := 123) rfl ?_
        exact kz_weak [(0, .ref (w_adr E.2.1 12 0)), (1, .int x1), (3, .int x3), (4, .int x4), (5, .int x5), (7, .int x7)] ⟨rfl, ⟨rfl, ⟨rfl, ⟨rfl, ⟨rfl, ⟨rfl, trivial⟩⟩⟩⟩⟩⟩ rfl (zt_X13_typeArgument_p123 hL  h)
def zb_X13_typeArgument_p54 (E : zE) (L : Nat) (Q : kx_Rs → wS → Prop) (x1 : Int32) (x2 : Int32) (x3 : Int32) (x4 : Int32) (x5 : Int32) (x6 : Int32) (y0 : Int32) (w : wS) : Prop := (if ¬ x6 = 0 then (kx_inb x1 (w_n w 12 0 26) = true ∧ (if ¬ w_a w 12 0 26 (x1).toNatClampNeg = 60 then zb_X13_typeArgument_p174 E L Q x1 x3 x4 x5 y0 1 w else (kx_inb x1 (w_n w 12 0 31) = true ∧ (if w_a w 12 0 31 (x1).toNatClampNeg < 0 then zb_X13_typeArgument_p174 E L Q x1 x3 x4 x5 y0 1 w else (kx_inb x1 (w_n w 12 0 31) = true ∧ (kx_inb (w_a w 12 0 31 (x1).toNatClampNeg) (w_n w 12 0 46) = true ∧ (if ¬ w_a w 12 0 46 (w_a w 12 0 31 (x1).toNatClampNeg).toNatClampNeg = 3 then zb_X13_typeArgument_p174 E L Q x1 x3 x4 x5 y0 1 w else zb_X13_typeArgument_p174 E L Q x1 x3 x4 x5 y0 0 w))))))) else (kx_inb x2 (w_n w 12 0 34) = true ∧ (if ((w_a w 12 0 34 (x2).toNatClampNeg) &&& 2) = 0 then zb_X13_typeArgument_p80 E L Q x1 x3 x4 x5 y0 0 w else zb_X13_typeArgument_p80 E L Q x1 x3 x4 x5 y0 1 w)))
theorem zt_X13_typeArgument_p54 {E : zE} {L : Nat} {Q : kx_Rs → wS → Prop} {x1 : Int32} {x2 : Int32} {x3 : Int32} {x4 : Int32} {x5 : Int32} {x6 : Int32} {y0 : Int32} {w : wS} (hL : 23 ≤ L) (h : zb_X13_typeArgument_p54 E L Q x1 x2 x3 x4 x5 x6 y0 w) : kzE E L kt_M567 54 [(0, .ref (w_adr E.2.1 12 0)), (1, .int x1), (2, .int x2), (3, .int x3), (4, .int x4), (5, .int x5), (6, .int x6)] [.int y0] w Q := by
  unfold zb_X13_typeArgument_p54 at h
  refine kz_sti (M := kt_M567) [(0, .ref (w_adr E.2.1 12 0)), (1, .int x1), (2, .int x2), (3, .int x3), (4, .int x4), (5, .int x5), (6, .int x6)] kX13_typeArgument_c4.2.1 (Nat.le_of_ble_eq_true rfl) ⟨⟨rfl, rfl, .inl rfl⟩, ⟨⟨rfl, rfl, .inl rfl⟩, ⟨⟨rfl, rfl, .inl rfl⟩, ⟨⟨rfl, rfl, .inl rfl⟩, ⟨⟨rfl, rfl, .inl rfl⟩, ⟨⟨rfl, rfl, .inl rfl⟩, ⟨⟨rfl, rfl, .inr rfl⟩, trivial⟩⟩⟩⟩⟩⟩⟩ rfl ?_
  refine kz_ic (M := kt_M567) 1 kX13_typeArgument_c4.2.2.1 rfl ?_
  refine kz_sti (M := kt_M567) [(0, .ref (w_adr E.2.1 12 0)), (1, .int x1), (2, .int x2), (3, .int x3), (4, .int x4), (5, .int x5), (6, .int x6), (7, .int y0)] kX13_typeArgument_c4.2.2.2.1 (Nat.le_of_ble_eq_true rfl) ⟨⟨rfl, rfl, .inl rfl⟩, ⟨⟨rfl, rfl, .inl rfl⟩, ⟨⟨rfl, rfl, .inl rfl⟩, ⟨⟨rfl, rfl, .inl rfl⟩, ⟨⟨rfl, rfl, .inl rfl⟩, ⟨⟨rfl, rfl, .inl rfl⟩, ⟨⟨rfl, rfl, .inl rfl⟩, ⟨⟨rfl, rfl, .inr rfl⟩, trivial⟩⟩⟩⟩⟩⟩⟩⟩ rfl ?_
  refine kz_iload (M := kt_M567) kX13_typeArgument_c4.2.2.2.2.1 rfl ?_
  refine kz_if_ne (M := kt_M567) kX13_typeArgument_c4.2.2.2.2.2.1 (t := 136) rfl h (fun h => ?_) (fun h => ?_)
  · skip
    refine kz_aload_n (M := kt_M567) kX13_typeArgument_c9.2.2.2.2.2.2.1 rfl ?_
    refine kz_gfc (M := kt_M567) (x := 4098) (c := 12) (o := 0) kX13_typeArgument_c9.2.2.2.2.2.2.2.1 wf_X13_187 (.inl rfl) ?_
    refine kz_iload_n (M := kt_M567) kX13_typeArgument_c10.1 rfl ?_
    refine kz_iald (M := kt_M567) (c := 12) (o := 0) (k := 26) (a := (E.2.1 4098)) kX13_typeArgument_c10.2.1 ow_12_0_26 oa_12_0_26 ot_0 h (fun h => ?_)
    refine kz_bi (M := kt_M567) 60 kX13_typeArgument_c10.2.2.1 rfl ?_
    refine kz_icmp_ne (M := kt_M567) kX13_typeArgument_c10.2.2.2.1 (t := 174) rfl h (fun h => ?_) (fun h => ?_)
    · skip
      exact kz_weak [(0, .ref (w_adr E.2.1 12 0)), (1, .int x1), (3, .int x3), (4, .int x4), (5, .int x5), (7, .int y0), (8, .int 1)] ⟨rfl, ⟨rfl, ⟨rfl, ⟨rfl, ⟨rfl, ⟨rfl, ⟨rfl, trivial⟩⟩⟩⟩⟩⟩⟩ rfl (zt_X13_typeArgument_p174 hL  h)
    · skip
      refine kz_aload_n (M := kt_M567) kX13_typeArgument_c10.2.2.2.2.1 rfl ?_
      refine kz_gfc (M := kt_M567) (x := 4103) (c := 12) (o := 0) kX13_typeArgument_c10.2.2.2.2.2.1 wf_X13_202 (.inl rfl) ?_
      refine kz_iload_n (M := kt_M567) kX13_typeArgument_c10.2.2.2.2.2.2.1 rfl ?_
      refine kz_iald (M := kt_M567) (c := 12) (o := 0) (k := 31) (a := (E.2.1 4103)) kX13_typeArgument_c10.2.2.2.2.2.2.2.1 ow_12_0_31 oa_12_0_31 ot_0 h (fun h => ?_)
      refine kz_if_lt (M := kt_M567) kX13_typeArgument_c11.1 (t := 174) rfl h (fun h => ?_) (fun h => ?_)
      · skip
        exact kz_weak [(0, .ref (w_adr E.2.1 12 0)), (1, .int x1), (3, .int x3), (4, .int x4), (5, .int x5), (7, .int y0), (8, .int 1)] ⟨rfl, ⟨rfl, ⟨rfl, ⟨rfl, ⟨rfl, ⟨rfl, ⟨rfl, trivial⟩⟩⟩⟩⟩⟩⟩ rfl (zt_X13_typeArgument_p174 hL  h)
      · skip
        refine kz_aload_n (M := kt_M567) kX13_typeArgument_c11.2.1 rfl ?_
        refine kz_gfc (M := kt_M567) (x := 4118) (c := 12) (o := 0) kX13_typeArgument_c11.2.2.1 wf_X13_223 (.inl rfl) ?_
        refine kz_aload_n (M := kt_M567) kX13_typeArgument_c11.2.2.2.1 rfl ?_
        refine kz_gfc (M := kt_M567) (x := 4103) (c := 12) (o := 0) kX13_typeArgument_c11.2.2.2.2.1 wf_X13_202 (.inl rfl) ?_
        refine kz_iload_n (M := kt_M567) kX13_typeArgument_c11.2.2.2.2.2.1 rfl ?_
        refine kz_iald (M := kt_M567) (c := 12) (o := 0) (k := 31) (a := (E.2.1 4103)) kX13_typeArgument_c11.2.2.2.2.2.2.1 ow_12_0_31 oa_12_0_31 ot_0 h (fun h => ?_)
        refine kz_iald (M := kt_M567) (c := 12) (o := 0) (k := 46) (a := (E.2.1 4118)) kX13_typeArgument_c11.2.2.2.2.2.2.2.1 ow_12_0_46 oa_12_0_46 ot_0 h (fun h => ?_)
        refine kz_ic (M := kt_M567) 3 kX13_typeArgument_c12.1 rfl ?_
        refine kz_icmp_ne (M := kt_M567) kX13_typeArgument_c12.2.1 (t := 174) rfl h (fun h => ?_) (fun h => ?_)
        · skip
          exact kz_weak [(0, .ref (w_adr E.2.1 12 0)), (1, .int x1), (3, .int x3), (4, .int x4), (5, .int x5), (7, .int y0), (8, .int 1)] ⟨rfl, ⟨rfl, ⟨rfl, ⟨rfl, ⟨rfl, ⟨rfl, ⟨rfl, trivial⟩⟩⟩⟩⟩⟩⟩ rfl (zt_X13_typeArgument_p174 hL  h)
        · skip
          refine kz_ic (M := kt_M567) 0 kX13_typeArgument_c12.2.2.1 rfl ?_
          refine kz_sti (M := kt_M567) [(0, .ref (w_adr E.2.1 12 0)), (1, .int x1), (3, .int x3), (4, .int x4), (5, .int x5), (7, .int y0)] kX13_typeArgument_c12.2.2.2.1 (Nat.le_of_ble_eq_true rfl) ⟨⟨rfl, rfl, .inl rfl⟩, ⟨⟨rfl, rfl, .inl rfl⟩, ⟨⟨rfl, rfl, .inl rfl⟩, ⟨⟨rfl, rfl, .inl rfl⟩, ⟨⟨rfl, rfl, .inl rfl⟩, ⟨⟨rfl, rfl, .inr rfl⟩, trivial⟩⟩⟩⟩⟩⟩ rfl ?_
          exact kz_weak [(0, .ref (w_adr E.2.1 12 0)), (1, .int x1), (3, .int x3), (4, .int x4), (5, .int x5), (7, .int y0), (8, .int 0)] ⟨rfl, ⟨rfl, ⟨rfl, ⟨rfl, ⟨rfl, ⟨rfl, ⟨rfl, trivial⟩⟩⟩⟩⟩⟩⟩ rfl (zt_X13_typeArgument_p174 hL  h)
  · skip
    refine kz_aload_n (M := kt_M567) kX13_typeArgument_c4.2.2.2.2.2.2.1 rfl ?_
    refine kz_gfc (M := kt_M567) (x := 4106) (c := 12) (o := 0) kX13_typeArgument_c4.2.2.2.2.2.2.2.1 wf_X13_211 (.inl rfl) ?_
    refine kz_iload_n (M := kt_M567) kX13_typeArgument_c5.1 rfl ?_
    refine kz_iald (M := kt_M567) (c := 12) (o := 0) (k := 34) (a := (E.2.1 4106)) kX13_typeArgument_c5.2.1 ow_12_0_34 oa_12_0_34 ot_0 h (fun h => ?_)
    refine kz_ic (M := kt_M567) 2 kX13_typeArgument_c5.2.2.1 rfl ?_
    refine kz_iand (M := kt_M567) kX13_typeArgument_c5.2.2.2.1 ?_
    refine kz_if_eq (M := kt_M567) kX13_typeArgument_c5.2.2.2.2.1 (t := 79) rfl h (fun h => ?_) (fun h => ?_)
    · skip
      refine kz_ic (M := kt_M567) 0 kX13_typeArgument_c5.2.2.2.2.2.2.2.1 rfl ?_
      exact kz_weak [(0, .ref (w_adr E.2.1 12 0)), (1, .int x1), (3, .int x3), (4, .int x4), (5, .int x5), (7, .int y0)] ⟨rfl, ⟨rfl, ⟨rfl, ⟨rfl, ⟨rfl, ⟨rfl, trivial⟩⟩⟩⟩⟩⟩ rfl (zt_X13_typeArgument_p80 hL  h)
    · skip
      refine kz_ic (M := kt_M567) 1 kX13_typeArgument_c5.2.2.2.2.2.1 rfl ?_
      refine kz_goto (M := kt_M567) kX13_typeArgument_c5.2.2.2.2.2.2.1 (t := 80) rfl ?_
      exact kz_weak [(0, .ref (w_adr E.2.1 12 0)), (1, .int x1), (3, .int x3), (4, .int x4), (5, .int x5), (7, .int y0)] ⟨rfl, ⟨rfl, ⟨rfl, ⟨rfl, ⟨rfl, ⟨rfl, trivial⟩⟩⟩⟩⟩⟩ rfl (zt_X13_typeArgument_p80 hL  h)
def zb_X13_typeArgument_p36 (E : zE) (L : Nat) (Q : kx_Rs → wS → Prop) (x1 : Int32) (x2 : Int32) (x3 : Int32) (x4 : Int32) (x5 : Int32) (y0 : Int32) (w : wS) : Prop := (kx_inb x2 (w_n w 12 0 34) = true ∧ (if ((w_a w 12 0 34 (x2).toNatClampNeg) &&& 1) = 0 then zb_X13_typeArgument_p54 E L Q x1 x2 x3 x4 x5 y0 0 w else zb_X13_typeArgument_p54 E L Q x1 x2 x3 x4 x5 y0 1 w))
theorem zt_X13_typeArgument_p36 {E : zE} {L : Nat} {Q : kx_Rs → wS → Prop} {x1 : Int32} {x2 : Int32} {x3 : Int32} {x4 : Int32} {x5 : Int32} {y0 : Int32} {w : wS} (hL : 23 ≤ L) (h : zb_X13_typeArgument_p36 E L Q x1 x2 x3 x4 x5 y0 w) : kzE E L kt_M567 36 [(0, .ref (w_adr E.2.1 12 0)), (1, .int x1), (2, .int x2), (3, .int x3), (4, .int x4), (5, .int x5)] [.int y0] w Q := by
  unfold zb_X13_typeArgument_p36 at h
  refine kz_sti (M := kt_M567) [(0, .ref (w_adr E.2.1 12 0)), (1, .int x1), (2, .int x2), (3, .int x3), (4, .int x4), (5, .int x5)] kX13_typeArgument_c2.2.2.2.2.2.2.1 (Nat.le_of_ble_eq_true rfl) ⟨⟨rfl, rfl, .inl rfl⟩, ⟨⟨rfl, rfl, .inl rfl⟩, ⟨⟨rfl, rfl, .inl rfl⟩, ⟨⟨rfl, rfl, .inl rfl⟩, ⟨⟨rfl, rfl, .inl rfl⟩, ⟨⟨rfl, rfl, .inr rfl⟩, trivial⟩⟩⟩⟩⟩⟩ rfl ?_
  refine kz_aload_n (M := kt_M567) kX13_typeArgument_c2.2.2.2.2.2.2.2.1 rfl ?_
  refine kz_gfc (M := kt_M567) (x := 4106) (c := 12) (o := 0) kX13_typeArgument_c3.1 wf_X13_211 (.inl rfl) ?_
  refine kz_iload_n (M := kt_M567) kX13_typeArgument_c3.2.1 rfl ?_
  refine kz_iald (M := kt_M567) (c := 12) (o := 0) (k := 34) (a := (E.2.1 4106)) kX13_typeArgument_c3.2.2.1 ow_12_0_34 oa_12_0_34 ot_0 h (fun h => ?_)
  refine kz_ic (M := kt_M567) 1 kX13_typeArgument_c3.2.2.2.1 rfl ?_
  refine kz_iand (M := kt_M567) kX13_typeArgument_c3.2.2.2.2.1 ?_
  refine kz_if_eq (M := kt_M567) kX13_typeArgument_c3.2.2.2.2.2.1 (t := 53) rfl h (fun h => ?_) (fun h => ?_)
  · skip
    refine kz_ic (M := kt_M567) 0 kX13_typeArgument_c4.1 rfl ?_
    exact kz_weak [(0, .ref (w_adr E.2.1 12 0)), (1, .int x1), (2, .int x2), (3, .int x3), (4, .int x4), (5, .int x5), (6, .int y0)] ⟨rfl, ⟨rfl, ⟨rfl, ⟨rfl, ⟨rfl, ⟨rfl, ⟨rfl, trivial⟩⟩⟩⟩⟩⟩⟩ rfl (zt_X13_typeArgument_p54 hL  h)
  · skip
    refine kz_ic (M := kt_M567) 1 kX13_typeArgument_c3.2.2.2.2.2.2.1 rfl ?_
    refine kz_goto (M := kt_M567) kX13_typeArgument_c3.2.2.2.2.2.2.2.1 (t := 54) rfl ?_
    exact kz_weak [(0, .ref (w_adr E.2.1 12 0)), (1, .int x1), (2, .int x2), (3, .int x3), (4, .int x4), (5, .int x5), (6, .int y0)] ⟨rfl, ⟨rfl, ⟨rfl, ⟨rfl, ⟨rfl, ⟨rfl, ⟨rfl, trivial⟩⟩⟩⟩⟩⟩⟩ rfl (zt_X13_typeArgument_p54 hL  h)
def zb_X13_typeArgument_p0 (E : zE) (L : Nat) (Q : kx_Rs → wS → Prop) (x1 : Int32) (x2 : Int32) (w : wS) : Prop := (kx_inb x2 (w_n w 12 0 31) = true ∧ zw E (L - 23) kt_M576 [.ref (w_adr E.2.1 12 0), .int x1] w (wk1 (fun v2 w1 => wle w w1 → (kx_inb x2 (w_n w1 12 0 34) = true ∧ (if ((w_a w1 12 0 34 (x2).toNatClampNeg) &&& 4) = 0 then zb_X13_typeArgument_p36 E L Q x1 x2 (w_a w 12 0 31 (x2).toNatClampNeg) v2 (w_i w1 12 0 73) 0 w1 else zb_X13_typeArgument_p36 E L Q x1 x2 (w_a w 12 0 31 (x2).toNatClampNeg) v2 (w_i w1 12 0 73) 1 w1))) (fun e w => Q (.inr e) w)))
theorem zt_X13_typeArgument_p0 {E : zE} {L : Nat} {Q : kx_Rs → wS → Prop} {x1 : Int32} {x2 : Int32} {w : wS} (hL : 23 ≤ L) (h : zb_X13_typeArgument_p0 E L Q x1 x2 w) : kzE E L kt_M567 0 [(0, .ref (w_adr E.2.1 12 0)), (1, .int x1), (2, .int x2)] [] w Q := by
  unfold zb_X13_typeArgument_p0 at h
  refine kz_aload_n (M := kt_M567) kX13_typeArgument_c0.1 rfl ?_
  refine kz_gfc (M := kt_M567) (x := 4103) (c := 12) (o := 0) kX13_typeArgument_c0.2.1 wf_X13_202 (.inl rfl) ?_
  refine kz_iload_n (M := kt_M567) kX13_typeArgument_c0.2.2.1 rfl ?_
  refine kz_iald (M := kt_M567) (c := 12) (o := 0) (k := 31) (a := (E.2.1 4103)) kX13_typeArgument_c0.2.2.2.1 ow_12_0_31 oa_12_0_31 ot_0 h (fun h => ?_)
  refine kz_sti_n (M := kt_M567) [(0, .ref (w_adr E.2.1 12 0)), (1, .int x1), (2, .int x2)] kX13_typeArgument_c0.2.2.2.2.1 (Nat.le_of_ble_eq_true rfl) ⟨⟨rfl, rfl, .inl rfl⟩, ⟨⟨rfl, rfl, .inl rfl⟩, ⟨⟨rfl, rfl, .inr rfl⟩, trivial⟩⟩⟩ rfl ?_
  refine kz_aload_n (M := kt_M567) kX13_typeArgument_c0.2.2.2.2.2.1 rfl ?_
  refine kz_iload_n (M := kt_M567) kX13_typeArgument_c0.2.2.2.2.2.2.1 rfl ?_
  refine kz_cv1 (M := kt_M567) (c := 12) (o := 0) (As := [.int x1]) (rest := []) kX13_typeArgument_c0.2.2.2.2.2.2.2.1 wl_X13_853 wMv_576 rfl (.inl rfl) rfl (Nat.le_trans (Nat.le_of_ble_eq_true rfl) hL) (Nat.le_of_ble_eq_true rfl) (Nat.le_of_ble_eq_true rfl) h (fun v2 w1 hle h => ?_) (fun _ _ _ h => kzx_no rfl h)
  have h := h hle
  refine kz_sti (M := kt_M567) [(0, .ref (w_adr E.2.1 12 0)), (1, .int x1), (2, .int x2), (3, .int (w_a w 12 0 31 (x2).toNatClampNeg))] kX13_typeArgument_c1.1 (Nat.le_of_ble_eq_true rfl) ⟨⟨rfl, rfl, .inl rfl⟩, ⟨⟨rfl, rfl, .inl rfl⟩, ⟨⟨rfl, rfl, .inl rfl⟩, ⟨⟨rfl, rfl, .inr rfl⟩, trivial⟩⟩⟩⟩ rfl ?_
  refine kz_aload_n (M := kt_M567) kX13_typeArgument_c1.2.1 rfl ?_
  refine kz_gfi (M := kt_M567) (c := 12) (o := 0) kX13_typeArgument_c1.2.2.1 wf_X13_859 (.inl rfl) ?_
  refine kz_sti (M := kt_M567) [(0, .ref (w_adr E.2.1 12 0)), (1, .int x1), (2, .int x2), (3, .int (w_a w 12 0 31 (x2).toNatClampNeg)), (4, .int v2)] kX13_typeArgument_c1.2.2.2.1 (Nat.le_of_ble_eq_true rfl) ⟨⟨rfl, rfl, .inl rfl⟩, ⟨⟨rfl, rfl, .inl rfl⟩, ⟨⟨rfl, rfl, .inl rfl⟩, ⟨⟨rfl, rfl, .inl rfl⟩, ⟨⟨rfl, rfl, .inr rfl⟩, trivial⟩⟩⟩⟩⟩ rfl ?_
  refine kz_aload_n (M := kt_M567) kX13_typeArgument_c1.2.2.2.2.1 rfl ?_
  refine kz_gfc (M := kt_M567) (x := 4106) (c := 12) (o := 0) kX13_typeArgument_c1.2.2.2.2.2.1 wf_X13_211 (.inl rfl) ?_
  refine kz_iload_n (M := kt_M567) kX13_typeArgument_c1.2.2.2.2.2.2.1 rfl ?_
  refine kz_iald (M := kt_M567) (c := 12) (o := 0) (k := 34) (a := (E.2.1 4106)) kX13_typeArgument_c1.2.2.2.2.2.2.2.1 ow_12_0_34 oa_12_0_34 ot_0 h (fun h => ?_)
  refine kz_ic (M := kt_M567) 4 kX13_typeArgument_c2.1 rfl ?_
  refine kz_iand (M := kt_M567) kX13_typeArgument_c2.2.1 ?_
  refine kz_if_eq (M := kt_M567) kX13_typeArgument_c2.2.2.1 (t := 35) rfl h (fun h => ?_) (fun h => ?_)
  · skip
    refine kz_ic (M := kt_M567) 0 kX13_typeArgument_c2.2.2.2.2.2.1 rfl ?_
    exact kz_weak [(0, .ref (w_adr E.2.1 12 0)), (1, .int x1), (2, .int x2), (3, .int (w_a w 12 0 31 (x2).toNatClampNeg)), (4, .int v2), (5, .int (w_i w1 12 0 73))] ⟨rfl, ⟨rfl, ⟨rfl, ⟨rfl, ⟨rfl, ⟨rfl, trivial⟩⟩⟩⟩⟩⟩ rfl (zt_X13_typeArgument_p36 hL  h)
  · skip
    refine kz_ic (M := kt_M567) 1 kX13_typeArgument_c2.2.2.2.1 rfl ?_
    refine kz_goto (M := kt_M567) kX13_typeArgument_c2.2.2.2.2.1 (t := 36) rfl ?_
    exact kz_weak [(0, .ref (w_adr E.2.1 12 0)), (1, .int x1), (2, .int x2), (3, .int (w_a w 12 0 31 (x2).toNatClampNeg)), (4, .int v2), (5, .int (w_i w1 12 0 73))] ⟨rfl, ⟨rfl, ⟨rfl, ⟨rfl, ⟨rfl, ⟨rfl, trivial⟩⟩⟩⟩⟩⟩ rfl (zt_X13_typeArgument_p36 hL  h)
def zb_X13_typeElem_p174 (E : zE) (L : Nat) (Q : kx_Rs → wS → Prop) (y0 : Int32) (y1 : Int32) (w : wS) : Prop := zw E (L - 22) kt_M435 [.ref (w_adr E.2.1 12 0), .int y1, .int y0] w (wk1 (fun v2 w1 => wle w w1 → Q (.inl (some (.int v2))) w1) (fun e w => Q (.inr e) w))
theorem zt_X13_typeElem_p174 {E : zE} {L : Nat} {Q : kx_Rs → wS → Prop} {y0 : Int32} {y1 : Int32} {w : wS} (hL : 23 ≤ L) (h : zb_X13_typeElem_p174 E L Q y0 y1 w) : kzE E L kt_M577 174 [(0, .ref (w_adr E.2.1 12 0))] [.int y0, .int y1, .ref (w_adr E.2.1 12 0)] w Q := by
  unfold zb_X13_typeElem_p174 at h
  refine kz_cv1 (M := kt_M577) (c := 12) (o := 0) (As := [.int y1, .int y0]) (rest := []) kX13_typeElem_c12.2.2.2.2.2.1 wl_X13_865 wMv_435 rfl (.inl rfl) rfl (Nat.le_trans (Nat.le_of_ble_eq_true rfl) hL) (Nat.le_of_ble_eq_true rfl) (Nat.le_of_ble_eq_true rfl) h (fun v2 w1 hle h => ?_) (fun _ _ _ h => kzx_no rfl h)
  have h := h hle
  exact kz_iret (M := kt_M577) kX13_typeElem_c12.2.2.2.2.2.2.1 rfl rfl h
def zb_X13_typeElem_p160 (E : zE) (L : Nat) (Q : kx_Rs → wS → Prop) (x2 : Int32) (y0 : Int32) (w : wS) : Prop := (if 0 ≤ x2 then (kx_inb x2 (w_n w 12 0 48) = true ∧ zb_X13_typeElem_p174 E L Q (w_a w 12 0 48 (x2).toNatClampNeg) y0 w) else zb_X13_typeElem_p174 E L Q (-1) y0 w)
theorem zt_X13_typeElem_p160 {E : zE} {L : Nat} {Q : kx_Rs → wS → Prop} {x2 : Int32} {y0 : Int32} {w : wS} (hL : 23 ≤ L) (h : zb_X13_typeElem_p160 E L Q x2 y0 w) : kzE E L kt_M577 160 [(0, .ref (w_adr E.2.1 12 0)), (2, .int x2)] [.int y0, .ref (w_adr E.2.1 12 0)] w Q := by
  unfold zb_X13_typeElem_p160 at h
  refine kz_iload_n (M := kt_M577) kX13_typeElem_c11.2.2.2.2.2.1 rfl ?_
  refine kz_if_ge (M := kt_M577) kX13_typeElem_c11.2.2.2.2.2.2.1 (t := 168) rfl h (fun h => ?_) (fun h => ?_)
  · skip
    refine kz_aload_n (M := kt_M577) kX13_typeElem_c12.2.1 rfl ?_
    refine kz_gfc (M := kt_M577) (x := 4120) (c := 12) (o := 0) kX13_typeElem_c12.2.2.1 wf_X13_229 (.inl rfl) ?_
    refine kz_iload_n (M := kt_M577) kX13_typeElem_c12.2.2.2.1 rfl ?_
    refine kz_iald (M := kt_M577) (c := 12) (o := 0) (k := 48) (a := (E.2.1 4120)) kX13_typeElem_c12.2.2.2.2.1 ow_12_0_48 oa_12_0_48 ot_0 h (fun h => ?_)
    exact kz_weak [(0, .ref (w_adr E.2.1 12 0))] ⟨rfl, trivial⟩ rfl (zt_X13_typeElem_p174 hL  h)
  · skip
    refine kz_ic (M := kt_M577) (-1) kX13_typeElem_c11.2.2.2.2.2.2.2.1 rfl ?_
    refine kz_goto (M := kt_M577) kX13_typeElem_c12.1 (t := 174) rfl ?_
    exact kz_weak [(0, .ref (w_adr E.2.1 12 0))] ⟨rfl, trivial⟩ rfl (zt_X13_typeElem_p174 hL  h)
def zb_X13_typeElem_p140 (E : zE) (L : Nat) (Q : kx_Rs → wS → Prop) (y0 : Int32) (w : wS) : Prop := zw E (L - 22) kt_M435 [.ref (w_adr E.2.1 12 0), .int y0, .int (-1)] w (wk1 (fun v2 w1 => wle w w1 → Q (.inl (some (.int v2))) w1) (fun e w => Q (.inr e) w))
theorem zt_X13_typeElem_p140 {E : zE} {L : Nat} {Q : kx_Rs → wS → Prop} {y0 : Int32} {w : wS} (hL : 23 ≤ L) (h : zb_X13_typeElem_p140 E L Q y0 w) : kzE E L kt_M577 140 [(0, .ref (w_adr E.2.1 12 0))] [.int y0, .ref (w_adr E.2.1 12 0)] w Q := by
  unfold zb_X13_typeElem_p140 at h
  refine kz_ic (M := kt_M577) (-1) kX13_typeElem_c10.2.1 rfl ?_
  refine kz_cv1 (M := kt_M577) (c := 12) (o := 0) (As := [.int y0, .int (-1)]) (rest := []) kX13_typeElem_c10.2.2.1 wl_X13_865 wMv_435 rfl (.inl rfl) rfl (Nat.le_trans (Nat.le_of_ble_eq_true rfl) hL) (Nat.le_of_ble_eq_true rfl) (Nat.le_of_ble_eq_true rfl) h (fun v2 w1 hle h => ?_) (fun _ _ _ h => kzx_no rfl h)
  have h := h hle
  exact kz_iret (M := kt_M577) kX13_typeElem_c10.2.2.2.1 rfl rfl h
def zb_X13_typeElem_p125 (E : zE) (L : Nat) (Q : kx_Rs → wS → Prop) (x2 : Int32) (w : wS) : Prop := (if 0 ≤ x2 then (kx_inb x2 (w_n w 12 0 47) = true ∧ zb_X13_typeElem_p140 E L Q (w_a w 12 0 47 (x2).toNatClampNeg) w) else zb_X13_typeElem_p140 E L Q (-1) w)
theorem zt_X13_typeElem_p125 {E : zE} {L : Nat} {Q : kx_Rs → wS → Prop} {x2 : Int32} {w : wS} (hL : 23 ≤ L) (h : zb_X13_typeElem_p125 E L Q x2 w) : kzE E L kt_M577 125 [(0, .ref (w_adr E.2.1 12 0)), (2, .int x2)] [] w Q := by
  unfold zb_X13_typeElem_p125 at h
  refine kz_aload_n (M := kt_M577) kX13_typeElem_c9.1 rfl ?_
  refine kz_iload_n (M := kt_M577) kX13_typeElem_c9.2.1 rfl ?_
  refine kz_if_ge (M := kt_M577) kX13_typeElem_c9.2.2.1 (t := 134) rfl h (fun h => ?_) (fun h => ?_)
  · skip
    refine kz_aload_n (M := kt_M577) kX13_typeElem_c9.2.2.2.2.2.1 rfl ?_
    refine kz_gfc (M := kt_M577) (x := 4119) (c := 12) (o := 0) kX13_typeElem_c9.2.2.2.2.2.2.1 wf_X13_226 (.inl rfl) ?_
    refine kz_iload_n (M := kt_M577) kX13_typeElem_c9.2.2.2.2.2.2.2.1 rfl ?_
    refine kz_iald (M := kt_M577) (c := 12) (o := 0) (k := 47) (a := (E.2.1 4119)) kX13_typeElem_c10.1 ow_12_0_47 oa_12_0_47 ot_0 h (fun h => ?_)
    exact kz_weak [(0, .ref (w_adr E.2.1 12 0))] ⟨rfl, trivial⟩ rfl (zt_X13_typeElem_p140 hL  h)
  · skip
    refine kz_ic (M := kt_M577) (-1) kX13_typeElem_c9.2.2.2.1 rfl ?_
    refine kz_goto (M := kt_M577) kX13_typeElem_c9.2.2.2.2.1 (t := 140) rfl ?_
    exact kz_weak [(0, .ref (w_adr E.2.1 12 0))] ⟨rfl, trivial⟩ rfl (zt_X13_typeElem_p140 hL  h)
def zb_X13_typeElem_p106 (E : zE) (L : Nat) (Q : kx_Rs → wS → Prop) (x1 : Int32) (w : wS) : Prop := (kx_inb x1 (w_n w 12 0 27) = true ∧ zw E (L - 22) kt_M560 [.ref (w_adr E.2.1 12 0), .int 9, .int (w_a w 12 0 27 (x1).toNatClampNeg)] w (wk0 (fun w1 => wle w w1 → zw E (L - 22) kt_M435 [.ref (w_adr E.2.1 12 0), .int (-1), .int (-1)] w1 (wk1 (fun v4 w3 => wle w1 w3 → Q (.inl (some (.int v4))) w3) (fun e w => Q (.inr e) w))) (fun e w => Q (.inr e) w)))
theorem zt_X13_typeElem_p106 {E : zE} {L : Nat} {Q : kx_Rs → wS → Prop} {x1 : Int32} {w : wS} (hL : 23 ≤ L) (h : zb_X13_typeElem_p106 E L Q x1 w) : kzE E L kt_M577 106 [(0, .ref (w_adr E.2.1 12 0)), (1, .int x1)] [] w Q := by
  unfold zb_X13_typeElem_p106 at h
  refine kz_aload_n (M := kt_M577) kX13_typeElem_c7.2.2.2.2.1 rfl ?_
  refine kz_bi (M := kt_M577) 9 kX13_typeElem_c7.2.2.2.2.2.1 rfl ?_
  refine kz_aload_n (M := kt_M577) kX13_typeElem_c7.2.2.2.2.2.2.1 rfl ?_
  refine kz_gfc (M := kt_M577) (x := 4099) (c := 12) (o := 0) kX13_typeElem_c7.2.2.2.2.2.2.2.1 wf_X13_190 (.inl rfl) ?_
  refine kz_iload_n (M := kt_M577) kX13_typeElem_c8.1 rfl ?_
  refine kz_iald (M := kt_M577) (c := 12) (o := 0) (k := 27) (a := (E.2.1 4099)) kX13_typeElem_c8.2.1 ow_12_0_27 oa_12_0_27 ot_0 h (fun h => ?_)
  refine kz_cv0 (M := kt_M577) (c := 12) (o := 0) (As := [.int 9, .int (w_a w 12 0 27 (x1).toNatClampNeg)]) (rest := []) kX13_typeElem_c8.2.2.1 wl_X13_734 wMv_560 rfl (.inl rfl) rfl (Nat.le_trans (Nat.le_of_ble_eq_true rfl) hL) (Nat.le_of_ble_eq_true rfl) (Nat.le_of_ble_eq_true rfl) h (fun w1 hle h => ?_) (fun _ _ _ h => kzx_no rfl h)
  have h := h hle
  refine kz_aload_n (M := kt_M577) kX13_typeElem_c8.2.2.2.1 rfl ?_
  refine kz_ic (M := kt_M577) (-1) kX13_typeElem_c8.2.2.2.2.1 rfl ?_
  refine kz_ic (M := kt_M577) (-1) kX13_typeElem_c8.2.2.2.2.2.1 rfl ?_
  refine kz_cv1 (M := kt_M577) (c := 12) (o := 0) (As := [.int (-1), .int (-1)]) (rest := []) kX13_typeElem_c8.2.2.2.2.2.2.1 wl_X13_865 wMv_435 rfl (.inl rfl) rfl (Nat.le_trans (Nat.le_of_ble_eq_true rfl) hL) (Nat.le_of_ble_eq_true rfl) (Nat.le_of_ble_eq_true rfl) h (fun v4 w3 hle h => ?_) (fun _ _ _ h => kzx_no rfl h)
  have h := h hle
  exact kz_iret (M := kt_M577) kX13_typeElem_c8.2.2.2.2.2.2.2.1 rfl rfl h
def zb_X13_typeElem_p47 (E : zE) (L : Nat) (Q : kx_Rs → wS → Prop) (x1 : Int32) (x2 : Int32) (w : wS) : Prop := (if x2 < 0 then zb_X13_typeElem_p125 E L Q x2 w else (kx_inb x1 (w_n w 12 0 28) = true ∧ zw E (L - 23) kt_M440 [.ref (w_adr E.2.1 12 0), .int (w_a w 12 0 28 (x1).toNatClampNeg)] w (wk1 (fun v2 w1 => wle w w1 → (if v2 = 0 then zb_X13_typeElem_p125 E L Q x2 w1 else (kx_inb x1 (w_n w1 12 0 28) = true ∧ zw E (L - 23) kt_M428 [.ref (w_adr E.2.1 12 0), .int (w_a w1 12 0 28 (x1).toNatClampNeg)] w1 (wk1 (fun v4 w3 => wle w1 w3 → (if v4 = 0 then zb_X13_typeElem_p125 E L Q x2 w3 else (if w_i w3 12 0 24 < 0 then zb_X13_typeElem_p106 E L Q x1 w3 else (kx_inb x2 (w_n w3 12 0 48) = true ∧ (if w_a w3 12 0 48 (x2).toNatClampNeg < 0 then zb_X13_typeElem_p125 E L Q x2 w3 else (kx_inb x2 (w_n w3 12 0 48) = true ∧ (if w_i w3 12 0 24 < w_a w3 12 0 48 (x2).toNatClampNeg then zb_X13_typeElem_p125 E L Q x2 w3 else zb_X13_typeElem_p106 E L Q x1 w3))))))) (fun e w => Q (.inr e) w))))) (fun e w => Q (.inr e) w))))
theorem zt_X13_typeElem_p47 {E : zE} {L : Nat} {Q : kx_Rs → wS → Prop} {x1 : Int32} {x2 : Int32} {w : wS} (hL : 23 ≤ L) (h : zb_X13_typeElem_p47 E L Q x1 x2 w) : kzE E L kt_M577 47 [(0, .ref (w_adr E.2.1 12 0)), (1, .int x1), (2, .int x2)] [] w Q := by
  unfold zb_X13_typeElem_p47 at h
  refine kz_iload_n (M := kt_M577) kX13_typeElem_c3.2.2.2.2.2.1 rfl ?_
  refine kz_if_lt (M := kt_M577) kX13_typeElem_c3.2.2.2.2.2.2.1 (t := 125) rfl h (fun h => ?_) (fun h => ?_)
  · skip
    exact kz_weak [(0, .ref (w_adr E.2.1 12 0)), (2, .int x2)] ⟨rfl, ⟨rfl, trivial⟩⟩ rfl (zt_X13_typeElem_p125 hL  h)
  · skip
    refine kz_aload_n (M := kt_M577) kX13_typeElem_c3.2.2.2.2.2.2.2.1 rfl ?_
    refine kz_aload_n (M := kt_M577) kX13_typeElem_c4.1 rfl ?_
    refine kz_gfc (M := kt_M577) (x := 4100) (c := 12) (o := 0) kX13_typeElem_c4.2.1 wf_X13_193 (.inl rfl) ?_
    refine kz_iload_n (M := kt_M577) kX13_typeElem_c4.2.2.1 rfl ?_
    refine kz_iald (M := kt_M577) (c := 12) (o := 0) (k := 28) (a := (E.2.1 4100)) kX13_typeElem_c4.2.2.2.1 ow_12_0_28 oa_12_0_28 ot_0 h (fun h => ?_)
    refine kz_cv1 (M := kt_M577) (c := 12) (o := 0) (As := [.int (w_a w 12 0 28 (x1).toNatClampNeg)]) (rest := []) kX13_typeElem_c4.2.2.2.2.1 wl_X13_816 wMv_440 rfl (.inl rfl) rfl (Nat.le_trans (Nat.le_of_ble_eq_true rfl) hL) (Nat.le_of_ble_eq_true rfl) (Nat.le_of_ble_eq_true rfl) h (fun v2 w1 hle h => ?_) (fun _ _ _ h => kzx_no rfl h)
    have h := h hle
    refine kz_if_eq (M := kt_M577) kX13_typeElem_c4.2.2.2.2.2.1 (t := 125) rfl h (fun h => ?_) (fun h => ?_)
    · skip
      exact kz_weak [(0, .ref (w_adr E.2.1 12 0)), (2, .int x2)] ⟨rfl, ⟨rfl, trivial⟩⟩ rfl (zt_X13_typeElem_p125 hL  h)
    · skip
      refine kz_aload_n (M := kt_M577) kX13_typeElem_c4.2.2.2.2.2.2.1 rfl ?_
      refine kz_aload_n (M := kt_M577) kX13_typeElem_c4.2.2.2.2.2.2.2.1 rfl ?_
      refine kz_gfc (M := kt_M577) (x := 4100) (c := 12) (o := 0) kX13_typeElem_c5.1 wf_X13_193 (.inl rfl) ?_
      refine kz_iload_n (M := kt_M577) kX13_typeElem_c5.2.1 rfl ?_
      refine kz_iald (M := kt_M577) (c := 12) (o := 0) (k := 28) (a := (E.2.1 4100)) kX13_typeElem_c5.2.2.1 ow_12_0_28 oa_12_0_28 ot_0 h (fun h => ?_)
      refine kz_cv1 (M := kt_M577) (c := 12) (o := 0) (As := [.int (w_a w1 12 0 28 (x1).toNatClampNeg)]) (rest := []) kX13_typeElem_c5.2.2.2.1 wl_X13_846 wMv_428 rfl (.inl rfl) rfl (Nat.le_trans (Nat.le_of_ble_eq_true rfl) hL) (Nat.le_of_ble_eq_true rfl) (Nat.le_of_ble_eq_true rfl) h (fun v4 w3 hle h => ?_) (fun _ _ _ h => kzx_no rfl h)
      have h := h hle
      refine kz_if_eq (M := kt_M577) kX13_typeElem_c5.2.2.2.2.1 (t := 125) rfl h (fun h => ?_) (fun h => ?_)
      · skip
        exact kz_weak [(0, .ref (w_adr E.2.1 12 0)), (2, .int x2)] ⟨rfl, ⟨rfl, trivial⟩⟩ rfl (zt_X13_typeElem_p125 hL  h)
      · skip
        refine kz_aload_n (M := kt_M577) kX13_typeElem_c5.2.2.2.2.2.1 rfl ?_
        refine kz_gfi (M := kt_M577) (c := 12) (o := 0) kX13_typeElem_c5.2.2.2.2.2.2.1 wf_X13_493 (.inl rfl) ?_
        refine kz_if_lt (M := kt_M577) kX13_typeElem_c5.2.2.2.2.2.2.2.1 (t := 106) rfl h (fun h => ?_) (fun h => ?_)
        · skip
          exact kz_weak [(0, .ref (w_adr E.2.1 12 0)), (1, .int x1)] ⟨rfl, ⟨rfl, trivial⟩⟩ rfl (zt_X13_typeElem_p106 hL  h)
        · skip
          refine kz_aload_n (M := kt_M577) kX13_typeElem_c6.1 rfl ?_
          refine kz_gfc (M := kt_M577) (x := 4120) (c := 12) (o := 0) kX13_typeElem_c6.2.1 wf_X13_229 (.inl rfl) ?_
          refine kz_iload_n (M := kt_M577) kX13_typeElem_c6.2.2.1 rfl ?_
          refine kz_iald (M := kt_M577) (c := 12) (o := 0) (k := 48) (a := (E.2.1 4120)) kX13_typeElem_c6.2.2.2.1 ow_12_0_48 oa_12_0_48 ot_0 h (fun h => ?_)
          refine kz_if_lt (M := kt_M577) kX13_typeElem_c6.2.2.2.2.1 (t := 125) rfl h (fun h => ?_) (fun h => ?_)
          · skip
            exact kz_weak [(0, .ref (w_adr E.2.1 12 0)), (2, .int x2)] ⟨rfl, ⟨rfl, trivial⟩⟩ rfl (zt_X13_typeElem_p125 hL  h)
          · skip
            refine kz_aload_n (M := kt_M577) kX13_typeElem_c6.2.2.2.2.2.1 rfl ?_
            refine kz_gfi (M := kt_M577) (c := 12) (o := 0) kX13_typeElem_c6.2.2.2.2.2.2.1 wf_X13_493 (.inl rfl) ?_
            refine kz_aload_n (M := kt_M577) kX13_typeElem_c6.2.2.2.2.2.2.2.1 rfl ?_
            refine kz_gfc (M := kt_M577) (x := 4120) (c := 12) (o := 0) kX13_typeElem_c7.1 wf_X13_229 (.inl rfl) ?_
            refine kz_iload_n (M := kt_M577) kX13_typeElem_c7.2.1 rfl ?_
            refine kz_iald (M := kt_M577) (c := 12) (o := 0) (k := 48) (a := (E.2.1 4120)) kX13_typeElem_c7.2.2.1 ow_12_0_48 oa_12_0_48 ot_0 h (fun h => ?_)
            refine kz_icmp_lt (M := kt_M577) kX13_typeElem_c7.2.2.2.1 (t := 125) rfl h (fun h => ?_) (fun h => ?_)
            · skip
              exact kz_weak [(0, .ref (w_adr E.2.1 12 0)), (2, .int x2)] ⟨rfl, ⟨rfl, trivial⟩⟩ rfl (zt_X13_typeElem_p125 hL  h)
            · skip
              exact kz_weak [(0, .ref (w_adr E.2.1 12 0)), (1, .int x1)] ⟨rfl, ⟨rfl, trivial⟩⟩ rfl (zt_X13_typeElem_p106 hL  h)
def zb_X13_typeElem_p0 (E : zE) (L : Nat) (Q : kx_Rs → wS → Prop) (x1 : Int32) (w : wS) : Prop := (kx_inb x1 (w_n w 12 0 31) = true ∧ (kx_inb x1 (w_n w 12 0 28) = true ∧ (if w_a w 12 0 28 (x1).toNatClampNeg < 0 then (if 0 ≤ w_a w 12 0 31 (x1).toNatClampNeg then (kx_inb (w_a w 12 0 31 (x1).toNatClampNeg) (w_n w 12 0 47) = true ∧ zb_X13_typeElem_p160 E L Q (w_a w 12 0 31 (x1).toNatClampNeg) (w_a w 12 0 47 (w_a w 12 0 31 (x1).toNatClampNeg).toNatClampNeg) w) else zb_X13_typeElem_p160 E L Q (w_a w 12 0 31 (x1).toNatClampNeg) (-1) w) else (kx_inb x1 (w_n w 12 0 28) = true ∧ zw E (L - 23) kt_M602 [.ref (w_adr E.2.1 12 0), .int (w_a w 12 0 28 (x1).toNatClampNeg), .int 0] w (wk0 (fun w1 => wle w w1 → (if w_a w 12 0 31 (x1).toNatClampNeg < 0 then zb_X13_typeElem_p47 E L Q x1 (w_a w 12 0 31 (x1).toNatClampNeg) w1 else (kx_inb (w_a w 12 0 31 (x1).toNatClampNeg) (w_n w1 12 0 48) = true ∧ (if ¬ w_a w1 12 0 48 (w_a w 12 0 31 (x1).toNatClampNeg).toNatClampNeg = (-1) then zb_X13_typeElem_p47 E L Q x1 (w_a w 12 0 31 (x1).toNatClampNeg) w1 else zw E (L - 21) kt_M357 [.ref (w_adr E.2.1 12 0), .int x1] w1 (wk1 (fun v4 w3 => wle w1 w3 → Q (.inl (some (.int v4))) w3) (fun e w => Q (.inr e) w)))))) (fun e w => Q (.inr e) w))))))
theorem zt_X13_typeElem_p0 {E : zE} {L : Nat} {Q : kx_Rs → wS → Prop} {x1 : Int32} {w : wS} (hL : 23 ≤ L) (h : zb_X13_typeElem_p0 E L Q x1 w) : kzE E L kt_M577 0 [(0, .ref (w_adr E.2.1 12 0)), (1, .int x1)] [] w Q := by
  unfold zb_X13_typeElem_p0 at h
  refine kz_aload_n (M := kt_M577) kX13_typeElem_c0.1 rfl ?_
  refine kz_gfc (M := kt_M577) (x := 4103) (c := 12) (o := 0) kX13_typeElem_c0.2.1 wf_X13_202 (.inl rfl) ?_
  refine kz_iload_n (M := kt_M577) kX13_typeElem_c0.2.2.1 rfl ?_
  refine kz_iald (M := kt_M577) (c := 12) (o := 0) (k := 31) (a := (E.2.1 4103)) kX13_typeElem_c0.2.2.2.1 ow_12_0_31 oa_12_0_31 ot_0 h (fun h => ?_)
  refine kz_sti_n (M := kt_M577) [(0, .ref (w_adr E.2.1 12 0)), (1, .int x1)] kX13_typeElem_c0.2.2.2.2.1 (Nat.le_of_ble_eq_true rfl) ⟨⟨rfl, rfl, .inl rfl⟩, ⟨⟨rfl, rfl, .inr rfl⟩, trivial⟩⟩ rfl ?_
  refine kz_aload_n (M := kt_M577) kX13_typeElem_c0.2.2.2.2.2.1 rfl ?_
  refine kz_gfc (M := kt_M577) (x := 4100) (c := 12) (o := 0) kX13_typeElem_c0.2.2.2.2.2.2.1 wf_X13_193 (.inl rfl) ?_
  refine kz_iload_n (M := kt_M577) kX13_typeElem_c0.2.2.2.2.2.2.2.1 rfl ?_
  refine kz_iald (M := kt_M577) (c := 12) (o := 0) (k := 28) (a := (E.2.1 4100)) kX13_typeElem_c1.1 ow_12_0_28 oa_12_0_28 ot_0 h (fun h => ?_)
  refine kz_if_lt (M := kt_M577) kX13_typeElem_c1.2.1 (t := 145) rfl h (fun h => ?_) (fun h => ?_)
  · skip
    refine kz_aload_n (M := kt_M577) kX13_typeElem_c10.2.2.2.2.1 rfl ?_
    refine kz_iload_n (M := kt_M577) kX13_typeElem_c10.2.2.2.2.2.1 rfl ?_
    refine kz_if_ge (M := kt_M577) kX13_typeElem_c10.2.2.2.2.2.2.1 (t := 154) rfl h (fun h => ?_) (fun h => ?_)
    · skip
      refine kz_aload_n (M := kt_M577) kX13_typeElem_c11.2.1 rfl ?_
      refine kz_gfc (M := kt_M577) (x := 4119) (c := 12) (o := 0) kX13_typeElem_c11.2.2.1 wf_X13_226 (.inl rfl) ?_
      refine kz_iload_n (M := kt_M577) kX13_typeElem_c11.2.2.2.1 rfl ?_
      refine kz_iald (M := kt_M577) (c := 12) (o := 0) (k := 47) (a := (E.2.1 4119)) kX13_typeElem_c11.2.2.2.2.1 ow_12_0_47 oa_12_0_47 ot_0 h (fun h => ?_)
      exact kz_weak [(0, .ref (w_adr E.2.1 12 0)), (2, .int (w_a w 12 0 31 (x1).toNatClampNeg))] ⟨rfl, ⟨rfl, trivial⟩⟩ rfl (zt_X13_typeElem_p160 hL  h)
    · skip
      refine kz_ic (M := kt_M577) (-1) kX13_typeElem_c10.2.2.2.2.2.2.2.1 rfl ?_
      refine kz_goto (M := kt_M577) kX13_typeElem_c11.1 (t := 160) rfl ?_
      exact kz_weak [(0, .ref (w_adr E.2.1 12 0)), (2, .int (w_a w 12 0 31 (x1).toNatClampNeg))] ⟨rfl, ⟨rfl, trivial⟩⟩ rfl (zt_X13_typeElem_p160 hL  h)
  · skip
    refine kz_aload_n (M := kt_M577) kX13_typeElem_c1.2.2.1 rfl ?_
    refine kz_aload_n (M := kt_M577) kX13_typeElem_c1.2.2.2.1 rfl ?_
    refine kz_gfc (M := kt_M577) (x := 4100) (c := 12) (o := 0) kX13_typeElem_c1.2.2.2.2.1 wf_X13_193 (.inl rfl) ?_
    refine kz_iload_n (M := kt_M577) kX13_typeElem_c1.2.2.2.2.2.1 rfl ?_
    refine kz_iald (M := kt_M577) (c := 12) (o := 0) (k := 28) (a := (E.2.1 4100)) kX13_typeElem_c1.2.2.2.2.2.2.1 ow_12_0_28 oa_12_0_28 ot_0 h (fun h => ?_)
    refine kz_ic (M := kt_M577) 0 kX13_typeElem_c1.2.2.2.2.2.2.2.1 rfl ?_
    refine kz_cv0 (M := kt_M577) (c := 12) (o := 0) (As := [.int (w_a w 12 0 28 (x1).toNatClampNeg), .int 0]) (rest := []) kX13_typeElem_c2.1 wl_X13_880 wMv_602 rfl (.inl rfl) rfl (Nat.le_trans (Nat.le_of_ble_eq_true rfl) hL) (Nat.le_of_ble_eq_true rfl) (Nat.le_of_ble_eq_true rfl) h (fun w1 hle h => ?_) (fun _ _ _ h => kzx_no rfl h)
    have h := h hle
    refine kz_iload_n (M := kt_M577) kX13_typeElem_c2.2.1 rfl ?_
    refine kz_if_lt (M := kt_M577) kX13_typeElem_c2.2.2.1 (t := 47) rfl h (fun h => ?_) (fun h => ?_)
    · skip
      exact kz_weak [(0, .ref (w_adr E.2.1 12 0)), (1, .int x1), (2, .int (w_a w 12 0 31 (x1).toNatClampNeg))] ⟨rfl, ⟨rfl, ⟨rfl, trivial⟩⟩⟩ rfl (zt_X13_typeElem_p47 hL  h)
    · skip
      refine kz_aload_n (M := kt_M577) kX13_typeElem_c2.2.2.2.1 rfl ?_
      refine kz_gfc (M := kt_M577) (x := 4120) (c := 12) (o := 0) kX13_typeElem_c2.2.2.2.2.1 wf_X13_229 (.inl rfl) ?_
      refine kz_iload_n (M := kt_M577) kX13_typeElem_c2.2.2.2.2.2.1 rfl ?_
      refine kz_iald (M := kt_M577) (c := 12) (o := 0) (k := 48) (a := (E.2.1 4120)) kX13_typeElem_c2.2.2.2.2.2.2.1 ow_12_0_48 oa_12_0_48 ot_0 h (fun h => ?_)
      refine kz_ic (M := kt_M577) (-1) kX13_typeElem_c2.2.2.2.2.2.2.2.1 rfl ?_
      refine kz_icmp_ne (M := kt_M577) kX13_typeElem_c3.1 (t := 47) rfl h (fun h => ?_) (fun h => ?_)
      · skip
        exact kz_weak [(0, .ref (w_adr E.2.1 12 0)), (1, .int x1), (2, .int (w_a w 12 0 31 (x1).toNatClampNeg))] ⟨rfl, ⟨rfl, ⟨rfl, trivial⟩⟩⟩ rfl (zt_X13_typeElem_p47 hL  h)
      · skip
        refine kz_aload_n (M := kt_M577) kX13_typeElem_c3.2.1 rfl ?_
        refine kz_iload_n (M := kt_M577) kX13_typeElem_c3.2.2.1 rfl ?_
        refine kz_cv1 (M := kt_M577) (c := 12) (o := 0) (As := [.int x1]) (rest := []) kX13_typeElem_c3.2.2.2.1 wl_X13_868 wMv_357 rfl (.inl rfl) rfl (Nat.le_trans (Nat.le_of_ble_eq_true rfl) hL) (Nat.le_of_ble_eq_true rfl) (Nat.le_of_ble_eq_true rfl) h (fun v4 w3 hle h => ?_) (fun _ _ _ h => kzx_no rfl h)
        have h := h hle
        exact kz_iret (M := kt_M577) kX13_typeElem_c3.2.2.2.2.1 rfl rfl h
def zL_X13_isConstant_p177 (E : zE) (L : Nat) (Q : kx_Rs → wS → Prop) (x2 : Int32) (x3 : Int32) (w : wS) : Prop := kzE E L kt_M440 177 [(0, .ref (w_adr E.2.1 12 0)), (2, .int x2), (3, .int x3)] [] w Q
def zb_X13_isConstant_p275 (E : zE) (L : Nat) (Q : kx_Rs → wS → Prop) (y0 : Int32) (w : wS) : Prop := ((y0 = 0 ∨ y0 = 1) ∧ Q (.inl (some (.int y0))) w)
theorem zt_X13_isConstant_p275 {E : zE} {L : Nat} {Q : kx_Rs → wS → Prop} {y0 : Int32} {w : wS} (hL : 23 ≤ L) (h : zb_X13_isConstant_p275 E L Q y0 w) : kzE E L kt_M440 275 [(0, .ref (w_adr E.2.1 12 0))] [.int y0] w Q := by
  unfold zb_X13_isConstant_p275 at h
  exact kz_iretz (M := kt_M440) kX13_isConstant_c15.2.2.1 rfl h.1 h.2
def zb_X13_isConstant_p274 (E : zE) (L : Nat) (Q : kx_Rs → wS → Prop) (w : wS) : Prop := zb_X13_isConstant_p275 E L Q 0 w
theorem zt_X13_isConstant_p274 {E : zE} {L : Nat} {Q : kx_Rs → wS → Prop} {w : wS} (hL : 23 ≤ L) (h : zb_X13_isConstant_p274 E L Q  w) : kzE E L kt_M440 274 [(0, .ref (w_adr E.2.1 12 0))] [] w Q := by
  unfold zb_X13_isConstant_p274 at h
  refine kz_ic (M := kt_M440) 0 kX13_isConstant_c15.2.1 rfl ?_
  exact kz_weak [(0, .ref (w_adr E.2.1 12 0))] ⟨rfl, trivial⟩ rfl (zt_X13_isConstant_p275 hL  h)
def zb_X13_isConstant_p231 (E : zE) (L : Nat) (Q : kx_Rs → wS → Prop) (w : wS) : Prop := Q (.inl (some (.int 0))) w
theorem zt_X13_isConstant_p231 {E : zE} {L : Nat} {Q : kx_Rs → wS → Prop} {w : wS} (hL : 23 ≤ L) (h : zb_X13_isConstant_p231 E L Q  w) : kzE E L kt_M440 231 [(0, .ref (w_adr E.2.1 12 0))] [] w Q := by
  unfold zb_X13_isConstant_p231 at h
  refine kz_ic (M := kt_M440) 0 kX13_isConstant_c11.2.2.2.2.2.2.2.1 rfl ?_
  exact kz_iretz (M := kt_M440) kX13_isConstant_c12.1 rfl (by decide) h
def zb_X13_isConstant_p198 (E : zE) (L : Nat) (Q : kx_Rs → wS → Prop) (x3 : Int32) (y0 : Int32) (w : wS) : Prop := (kx_inb x3 (w_n w 12 0 32) = true ∧ zL_X13_isConstant_p177 E L Q y0 (w_a w 12 0 32 (x3).toNatClampNeg) w)
theorem zt_X13_isConstant_p198 {E : zE} {L : Nat} {Q : kx_Rs → wS → Prop} {x3 : Int32} {y0 : Int32} {w : wS} (hL : 23 ≤ L) (h : zb_X13_isConstant_p198 E L Q x3 y0 w) : kzE E L kt_M440 198 [(0, .ref (w_adr E.2.1 12 0)), (3, .int x3)] [.int y0] w Q := by
  unfold zb_X13_isConstant_p198 at h
  refine kz_sti_n (M := kt_M440) [(0, .ref (w_adr E.2.1 12 0)), (3, .int x3)] kX13_isConstant_c9.2.2.1 (Nat.le_of_ble_eq_true rfl) ⟨⟨rfl, rfl, .inl rfl⟩, ⟨⟨rfl, rfl, .inl rfl⟩, trivial⟩⟩ rfl ?_
  refine kz_aload_n (M := kt_M440) kX13_isConstant_c9.2.2.2.1 rfl ?_
  refine kz_gfc (M := kt_M440) (x := 4104) (c := 12) (o := 0) kX13_isConstant_c9.2.2.2.2.1 wf_X13_205 (.inl rfl) ?_
  refine kz_iload_n (M := kt_M440) kX13_isConstant_c9.2.2.2.2.2.1 rfl ?_
  refine kz_iald (M := kt_M440) (c := 12) (o := 0) (k := 32) (a := (E.2.1 4104)) kX13_isConstant_c9.2.2.2.2.2.2.1 ow_12_0_32 oa_12_0_32 ot_0 h (fun h => ?_)
  refine kz_sti_n (M := kt_M440) [(0, .ref (w_adr E.2.1 12 0)), (2, .int y0)] kX13_isConstant_c9.2.2.2.2.2.2.2.1 (Nat.le_of_ble_eq_true rfl) ⟨⟨rfl, rfl, .inl rfl⟩, ⟨⟨rfl, rfl, .inr rfl⟩, trivial⟩⟩ rfl ?_
  refine kz_goto (M := kt_M440) kX13_isConstant_c10.1 (t := 177) rfl ?_
  exact kz_weak [(0, .ref (w_adr E.2.1 12 0)), (2, .int y0), (3, .int (w_a w 12 0 32 (x3).toNatClampNeg))] ⟨rfl, ⟨rfl, ⟨rfl, trivial⟩⟩⟩ rfl h
def zb_X13_isConstant_p197 (E : zE) (L : Nat) (Q : kx_Rs → wS → Prop) (x3 : Int32) (w : wS) : Prop := zb_X13_isConstant_p198 E L Q x3 0 w
theorem zt_X13_isConstant_p197 {E : zE} {L : Nat} {Q : kx_Rs → wS → Prop} {x3 : Int32} {w : wS} (hL : 23 ≤ L) (h : zb_X13_isConstant_p197 E L Q x3 w) : kzE E L kt_M440 197 [(0, .ref (w_adr E.2.1 12 0)), (3, .int x3)] [] w Q := by
  unfold zb_X13_isConstant_p197 at h
  refine kz_ic (M := kt_M440) 0 kX13_isConstant_c9.2.1 rfl ?_
  exact kz_weak [(0, .ref (w_adr E.2.1 12 0)), (3, .int x3)] ⟨rfl, ⟨rfl, trivial⟩⟩ rfl (zt_X13_isConstant_p198 hL  h)
def zb_X13_isConstant_p177 (E : zE) (L : Nat) (Q : kx_Rs → wS → Prop) (x2 : Int32) (x3 : Int32) (w : wS) : Prop := (if x3 < 0 then ((x2 = 0 ∨ x2 = 1) ∧ Q (.inl (some (.int x2))) w) else (if x2 = 0 then zb_X13_isConstant_p197 E L Q x3 w else zw E (L - 23) kt_M440 [.ref (w_adr E.2.1 12 0), .int x3] w (wk1 (fun v2 w1 => wle w w1 → (if v2 = 0 then zb_X13_isConstant_p197 E L Q x3 w1 else zb_X13_isConstant_p198 E L Q x3 1 w1)) (fun e w => Q (.inr e) w))))
theorem zt_X13_isConstant_p177 {E : zE} {L : Nat} {Q : kx_Rs → wS → Prop} {x2 : Int32} {x3 : Int32} {w : wS} (hL : 23 ≤ L) (h : zb_X13_isConstant_p177 E L Q x2 x3 w) : kzE E L kt_M440 177 [(0, .ref (w_adr E.2.1 12 0)), (2, .int x2), (3, .int x3)] [] w Q := by
  unfold zb_X13_isConstant_p177 at h
  refine kz_iload_n (M := kt_M440) kX13_isConstant_c7.2.2.2.2.2.2.2.1 rfl ?_
  refine kz_if_lt (M := kt_M440) kX13_isConstant_c8.1 (t := 209) rfl h (fun h => ?_) (fun h => ?_)
  · skip
    refine kz_iload_n (M := kt_M440) kX13_isConstant_c10.2.1 rfl ?_
    exact kz_iretz (M := kt_M440) kX13_isConstant_c10.2.2.1 rfl h.1 h.2
  · skip
    refine kz_iload_n (M := kt_M440) kX13_isConstant_c8.2.1 rfl ?_
    refine kz_if_eq (M := kt_M440) kX13_isConstant_c8.2.2.1 (t := 197) rfl h (fun h => ?_) (fun h => ?_)
    · skip
      exact kz_weak [(0, .ref (w_adr E.2.1 12 0)), (3, .int x3)] ⟨rfl, ⟨rfl, trivial⟩⟩ rfl (zt_X13_isConstant_p197 hL  h)
    · skip
      refine kz_aload_n (M := kt_M440) kX13_isConstant_c8.2.2.2.1 rfl ?_
      refine kz_iload_n (M := kt_M440) kX13_isConstant_c8.2.2.2.2.1 rfl ?_
      refine kz_cv1 (M := kt_M440) (c := 12) (o := 0) (As := [.int x3]) (rest := []) kX13_isConstant_c8.2.2.2.2.2.1 wl_X13_816 wMv_440 rfl (.inl rfl) rfl (Nat.le_trans (Nat.le_of_ble_eq_true rfl) hL) (Nat.le_of_ble_eq_true rfl) (Nat.le_of_ble_eq_true rfl) h (fun v2 w1 hle h => ?_) (fun _ _ _ h => kzx_no rfl h)
      have h := h hle
      refine kz_if_eq (M := kt_M440) kX13_isConstant_c8.2.2.2.2.2.2.1 (t := 197) rfl h (fun h => ?_) (fun h => ?_)
      · skip
        exact kz_weak [(0, .ref (w_adr E.2.1 12 0)), (3, .int x3)] ⟨rfl, ⟨rfl, trivial⟩⟩ rfl (zt_X13_isConstant_p197 hL  h)
      · skip
        refine kz_ic (M := kt_M440) 1 kX13_isConstant_c8.2.2.2.2.2.2.2.1 rfl ?_
        refine kz_goto (M := kt_M440) kX13_isConstant_c9.1 (t := 198) rfl ?_
        exact kz_weak [(0, .ref (w_adr E.2.1 12 0)), (3, .int x3)] ⟨rfl, ⟨rfl, trivial⟩⟩ rfl (zt_X13_isConstant_p198 hL  h)
def zb_X13_isConstant_p167 (E : zE) (L : Nat) (Q : kx_Rs → wS → Prop) (y0 : Int32) (w : wS) : Prop := ((y0 = 0 ∨ y0 = 1) ∧ Q (.inl (some (.int y0))) w)
theorem zt_X13_isConstant_p167 {E : zE} {L : Nat} {Q : kx_Rs → wS → Prop} {y0 : Int32} {w : wS} (hL : 23 ≤ L) (h : zb_X13_isConstant_p167 E L Q y0 w) : kzE E L kt_M440 167 [(0, .ref (w_adr E.2.1 12 0))] [.int y0] w Q := by
  unfold zb_X13_isConstant_p167 at h
  exact kz_iretz (M := kt_M440) kX13_isConstant_c6.2.2.2.2.2.2.2.1 rfl h.1 h.2
def zb_X13_isConstant_p166 (E : zE) (L : Nat) (Q : kx_Rs → wS → Prop) (w : wS) : Prop := zb_X13_isConstant_p167 E L Q 0 w
theorem zt_X13_isConstant_p166 {E : zE} {L : Nat} {Q : kx_Rs → wS → Prop} {w : wS} (hL : 23 ≤ L) (h : zb_X13_isConstant_p166 E L Q  w) : kzE E L kt_M440 166 [(0, .ref (w_adr E.2.1 12 0))] [] w Q := by
  unfold zb_X13_isConstant_p166 at h
  refine kz_ic (M := kt_M440) 0 kX13_isConstant_c6.2.2.2.2.2.2.1 rfl ?_
  exact kz_weak [(0, .ref (w_adr E.2.1 12 0))] ⟨rfl, trivial⟩ rfl (zt_X13_isConstant_p167 hL  h)
def zb_X13_isConstant_p135 (E : zE) (L : Nat) (Q : kx_Rs → wS → Prop) (y0 : Int32) (w : wS) : Prop := ((y0 = 0 ∨ y0 = 1) ∧ Q (.inl (some (.int y0))) w)
theorem zt_X13_isConstant_p135 {E : zE} {L : Nat} {Q : kx_Rs → wS → Prop} {y0 : Int32} {w : wS} (hL : 23 ≤ L) (h : zb_X13_isConstant_p135 E L Q y0 w) : kzE E L kt_M440 135 [(0, .ref (w_adr E.2.1 12 0))] [.int y0] w Q := by
  unfold zb_X13_isConstant_p135 at h
  exact kz_iretz (M := kt_M440) kX13_isConstant_c4.2.2.2.2.2.1 rfl h.1 h.2
def zb_X13_isConstant_p0 (E : zE) (L : Nat) (Q : kx_Rs → wS → Prop) (x1 : Int32) (w : wS) : Prop := (kx_inb x1 (w_n w 12 0 26) = true ∧ (if w_a w 12 0 26 (x1).toNatClampNeg = 50 then Q (.inl (some (.int 1))) w else (if w_a w 12 0 26 (x1).toNatClampNeg = 51 then Q (.inl (some (.int 1))) w else (if w_a w 12 0 26 (x1).toNatClampNeg = 53 then Q (.inl (some (.int 1))) w else (if w_a w 12 0 26 (x1).toNatClampNeg = 54 then Q (.inl (some (.int 1))) w else (if w_a w 12 0 26 (x1).toNatClampNeg = 55 then Q (.inl (some (.int 1))) w else (if w_a w 12 0 26 (x1).toNatClampNeg = 56 then Q (.inl (some (.int 1))) w else (if w_a w 12 0 26 (x1).toNatClampNeg = 57 then (kx_inb x1 (w_n w 12 0 28) = true ∧ zw E (L - 23) kt_M440 [.ref (w_adr E.2.1 12 0), .int (w_a w 12 0 28 (x1).toNatClampNeg)] w (wk1 (fun v2 w1 => wle w w1 → ((v2 = 0 ∨ v2 = 1) ∧ Q (.inl (some (.int v2))) w1)) (fun e w => Q (.inr e) w))) else (if w_a w 12 0 26 (x1).toNatClampNeg = 58 then (kx_inb x1 (w_n w 12 0 28) = true ∧ zw E (L - 23) kt_M440 [.ref (w_adr E.2.1 12 0), .int (w_a w 12 0 28 (x1).toNatClampNeg)] w (wk1 (fun v4 w3 => wle w w3 → ((v4 = 0 ∨ v4 = 1) ∧ Q (.inl (some (.int v4))) w3)) (fun e w => Q (.inr e) w))) else (if w_a w 12 0 26 (x1).toNatClampNeg = 60 then (kx_inb x1 (w_n w 12 0 31) = true ∧ (if w_a w 12 0 31 (x1).toNatClampNeg < 0 then zb_X13_isConstant_p231 E L Q w else (kx_inb x1 (w_n w 12 0 28) = true ∧ (if w_a w 12 0 28 (x1).toNatClampNeg < 0 then (kx_inb (w_a w 12 0 31 (x1).toNatClampNeg) (w_n w 12 0 46) = true ∧ (if ¬ w_a w 12 0 46 (w_a w 12 0 31 (x1).toNatClampNeg).toNatClampNeg = 9 then (kx_inb (w_a w 12 0 31 (x1).toNatClampNeg) (w_n w 12 0 46) = true ∧ (if ¬ w_a w 12 0 46 (w_a w 12 0 31 (x1).toNatClampNeg).toNatClampNeg = 2 then zb_X13_isConstant_p274 E L Q w else (kx_inb (w_a w 12 0 31 (x1).toNatClampNeg) (w_n w 12 0 68) = true ∧ (if w_a w 12 0 68 (w_a w 12 0 31 (x1).toNatClampNeg).toNatClampNeg = 0 then zb_X13_isConstant_p274 E L Q w else zb_X13_isConstant_p275 E L Q 1 w)))) else (kx_inb (w_a w 12 0 31 (x1).toNatClampNeg) (w_n w 12 0 71) = true ∧ ((w_a w 12 0 71 (w_a w 12 0 31 (x1).toNatClampNeg).toNatClampNeg = 0 ∨ w_a w 12 0 71 (w_a w 12 0 31 (x1).toNatClampNeg).toNatClampNeg = 1) ∧ Q (.inl (some (.int (w_a w 12 0 71 (w_a w 12 0 31 (x1).toNatClampNeg).toNatClampNeg)))) w)))) else zb_X13_isConstant_p231 E L Q w)))) else (if w_a w 12 0 26 (x1).toNatClampNeg = 62 then (kx_inb x1 (w_n w 12 0 29) = true ∧ (if ¬ w_a w 12 0 29 (x1).toNatClampNeg = 27 then (kx_inb x1 (w_n w 12 0 28) = true ∧ zw E (L - 23) kt_M440 [.ref (w_adr E.2.1 12 0), .int (w_a w 12 0 28 (x1).toNatClampNeg)] w (wk1 (fun v6 w5 => wle w w5 → zb_X13_isConstant_p135 E L Q v6 w5) (fun e w => Q (.inr e) w))) else (kx_inb x1 (w_n w 12 0 28) = true ∧ zw E (L - 23) kt_M465 [.ref (w_adr E.2.1 12 0), .int (w_a w 12 0 28 (x1).toNatClampNeg)] w (wk1 (fun v8 w7 => wle w w7 → (if v8 < 0 then zb_X13_isConstant_p135 E L Q 0 w7 else zb_X13_isConstant_p135 E L Q 1 w7)) (fun e w => Q (.inr e) w))))) else (if w_a w 12 0 26 (x1).toNatClampNeg = 63 then (kx_inb x1 (w_n w 12 0 28) = true ∧ zw E (L - 23) kt_M440 [.ref (w_adr E.2.1 12 0), .int (w_a w 12 0 28 (x1).toNatClampNeg)] w (wk1 (fun v10 w9 => wle w w9 → (if v10 = 0 then zb_X13_isConstant_p166 E L Q w9 else (kx_inb x1 (w_n w9 12 0 30) = true ∧ zw E (L - 23) kt_M440 [.ref (w_adr E.2.1 12 0), .int (w_a w9 12 0 30 (x1).toNatClampNeg)] w9 (wk1 (fun v12 w11 => wle w9 w11 → (if v12 = 0 then zb_X13_isConstant_p166 E L Q w11 else zb_X13_isConstant_p167 E L Q 1 w11)) (fun e w => Q (.inr e) w))))) (fun e w => Q (.inr e) w))) else (if w_a w 12 0 26 (x1).toNatClampNeg = 64 then (kx_inb x1 (w_n w 12 0 28) = true ∧ zL_X13_isConstant_p177 E L Q 1 (w_a w 12 0 28 (x1).toNatClampNeg) w) else Q (.inl (some (.int 0))) w)))))))))))))
theorem zt_X13_isConstant_p0 {E : zE} {L : Nat} {Q : kx_Rs → wS → Prop} {x1 : Int32} {w : wS} (hL : 23 ≤ L) (h : zb_X13_isConstant_p0 E L Q x1 w) : kzE E L kt_M440 0 [(0, .ref (w_adr E.2.1 12 0)), (1, .int x1)] [] w Q := by
  unfold zb_X13_isConstant_p0 at h
  refine kz_aload_n (M := kt_M440) kX13_isConstant_c0.1 rfl ?_
  refine kz_gfc (M := kt_M440) (x := 4098) (c := 12) (o := 0) kX13_isConstant_c0.2.1 wf_X13_187 (.inl rfl) ?_
  refine kz_iload_n (M := kt_M440) kX13_isConstant_c0.2.2.1 rfl ?_
  refine kz_iald (M := kt_M440) (c := 12) (o := 0) (k := 26) (a := (E.2.1 4098)) kX13_isConstant_c0.2.2.2.1 ow_12_0_26 oa_12_0_26 ot_0 h (fun h => ?_)
  refine kz_tsw (M := kt_M440) [(50, 80), (51, 80), (53, 80), (54, 80), (55, 80), (56, 80), (57, 82), (58, 82), (60, 211), (62, 93), (63, 136), (64, 168)] [_, _, _, _, _, _, _, _, _, _, _, _] 276 dX13_isConstant_p6 (by decide +kernel) h ⟨fun h => ?_, fun h => ?_, fun h => ?_, fun h => ?_, fun h => ?_, fun h => ?_, fun h => ?_, fun h => ?_, fun h => ?_, fun h => ?_, fun h => ?_, fun h => ?_, trivial⟩ (fun h => ?_)
  · skip
    refine kz_ic (M := kt_M440) 1 kX13_isConstant_c0.2.2.2.2.2.1 rfl ?_
    exact kz_iretz (M := kt_M440) kX13_isConstant_c0.2.2.2.2.2.2.1 rfl (by decide) h
  · skip
    refine kz_ic (M := kt_M440) 1 kX13_isConstant_c0.2.2.2.2.2.1 rfl ?_
    exact kz_iretz (M := kt_M440) kX13_isConstant_c0.2.2.2.2.2.2.1 rfl (by decide) h
  · skip
    refine kz_ic (M := kt_M440) 1 kX13_isConstant_c0.2.2.2.2.2.1 rfl ?_
    exact kz_iretz (M := kt_M440) kX13_isConstant_c0.2.2.2.2.2.2.1 rfl (by decide) h
  · skip
    refine kz_ic (M := kt_M440) 1 kX13_isConstant_c0.2.2.2.2.2.1 rfl ?_
    exact kz_iretz (M := kt_M440) kX13_isConstant_c0.2.2.2.2.2.2.1 rfl (by decide) h
  · skip
    refine kz_ic (M := kt_M440) 1 kX13_isConstant_c0.2.2.2.2.2.1 rfl ?_
    exact kz_iretz (M := kt_M440) kX13_isConstant_c0.2.2.2.2.2.2.1 rfl (by decide) h
  · skip
    refine kz_ic (M := kt_M440) 1 kX13_isConstant_c0.2.2.2.2.2.1 rfl ?_
    exact kz_iretz (M := kt_M440) kX13_isConstant_c0.2.2.2.2.2.2.1 rfl (by decide) h
  · skip
    refine kz_aload_n (M := kt_M440) kX13_isConstant_c0.2.2.2.2.2.2.2.1 rfl ?_
    refine kz_aload_n (M := kt_M440) kX13_isConstant_c1.1 rfl ?_
    refine kz_gfc (M := kt_M440) (x := 4100) (c := 12) (o := 0) kX13_isConstant_c1.2.1 wf_X13_193 (.inl rfl) ?_
    refine kz_iload_n (M := kt_M440) kX13_isConstant_c1.2.2.1 rfl ?_
    refine kz_iald (M := kt_M440) (c := 12) (o := 0) (k := 28) (a := (E.2.1 4100)) kX13_isConstant_c1.2.2.2.1 ow_12_0_28 oa_12_0_28 ot_0 h (fun h => ?_)
    refine kz_cv1 (M := kt_M440) (c := 12) (o := 0) (As := [.int (w_a w 12 0 28 (x1).toNatClampNeg)]) (rest := []) kX13_isConstant_c1.2.2.2.2.1 wl_X13_816 wMv_440 rfl (.inl rfl) rfl (Nat.le_trans (Nat.le_of_ble_eq_true rfl) hL) (Nat.le_of_ble_eq_true rfl) (Nat.le_of_ble_eq_true rfl) h (fun v2 w1 hle h => ?_) (fun _ _ _ h => kzx_no rfl h)
    have h := h hle
    exact kz_iretz (M := kt_M440) kX13_isConstant_c1.2.2.2.2.2.1 rfl h.1 h.2
  · skip
    refine kz_aload_n (M := kt_M440) kX13_isConstant_c0.2.2.2.2.2.2.2.1 rfl ?_
    refine kz_aload_n (M := kt_M440) kX13_isConstant_c1.1 rfl ?_
    refine kz_gfc (M := kt_M440) (x := 4100) (c := 12) (o := 0) kX13_isConstant_c1.2.1 wf_X13_193 (.inl rfl) ?_
    refine kz_iload_n (M := kt_M440) kX13_isConstant_c1.2.2.1 rfl ?_
    refine kz_iald (M := kt_M440) (c := 12) (o := 0) (k := 28) (a := (E.2.1 4100)) kX13_isConstant_c1.2.2.2.1 ow_12_0_28 oa_12_0_28 ot_0 h (fun h => ?_)
    refine kz_cv1 (M := kt_M440) (c := 12) (o := 0) (As := [.int (w_a w 12 0 28 (x1).toNatClampNeg)]) (rest := []) kX13_isConstant_c1.2.2.2.2.1 wl_X13_816 wMv_440 rfl (.inl rfl) rfl (Nat.le_trans (Nat.le_of_ble_eq_true rfl) hL) (Nat.le_of_ble_eq_true rfl) (Nat.le_of_ble_eq_true rfl) h (fun v4 w3 hle h => ?_) (fun _ _ _ h => kzx_no rfl h)
    have h := h hle
    exact kz_iretz (M := kt_M440) kX13_isConstant_c1.2.2.2.2.2.1 rfl h.1 h.2
  · skip
    refine kz_aload_n (M := kt_M440) kX13_isConstant_c10.2.2.2.1 rfl ?_
    refine kz_gfc (M := kt_M440) (x := 4103) (c := 12) (o := 0) kX13_isConstant_c10.2.2.2.2.1 wf_X13_202 (.inl rfl) ?_
    refine kz_iload_n (M := kt_M440) kX13_isConstant_c10.2.2.2.2.2.1 rfl ?_
    refine kz_iald (M := kt_M440) (c := 12) (o := 0) (k := 31) (a := (E.2.1 4103)) kX13_isConstant_c10.2.2.2.2.2.2.1 ow_12_0_31 oa_12_0_31 ot_0 h (fun h => ?_)
    refine kz_sti_n (M := kt_M440) [(0, .ref (w_adr E.2.1 12 0)), (1, .int x1)] kX13_isConstant_c10.2.2.2.2.2.2.2.1 (Nat.le_of_ble_eq_true rfl) ⟨⟨rfl, rfl, .inl rfl⟩, ⟨⟨rfl, rfl, .inr rfl⟩, trivial⟩⟩ rfl ?_
    refine kz_iload_n (M := kt_M440) kX13_isConstant_c11.1 rfl ?_
    refine kz_if_lt (M := kt_M440) kX13_isConstant_c11.2.1 (t := 231) rfl h (fun h => ?_) (fun h => ?_)
    · skip
      exact kz_weak [(0, .ref (w_adr E.2.1 12 0))] ⟨rfl, trivial⟩ rfl (zt_X13_isConstant_p231 hL  h)
    · skip
      refine kz_aload_n (M := kt_M440) kX13_isConstant_c11.2.2.1 rfl ?_
      refine kz_gfc (M := kt_M440) (x := 4100) (c := 12) (o := 0) kX13_isConstant_c11.2.2.2.1 wf_X13_193 (.inl rfl) ?_
      refine kz_iload_n (M := kt_M440) kX13_isConstant_c11.2.2.2.2.1 rfl ?_
      refine kz_iald (M := kt_M440) (c := 12) (o := 0) (k := 28) (a := (E.2.1 4100)) kX13_isConstant_c11.2.2.2.2.2.1 ow_12_0_28 oa_12_0_28 ot_0 h (fun h => ?_)
      refine kz_if_lt (M := kt_M440) kX13_isConstant_c11.2.2.2.2.2.2.1 (t := 233) rfl h (fun h => ?_) (fun h => ?_)
      · skip
        refine kz_aload_n (M := kt_M440) kX13_isConstant_c12.2.1 rfl ?_
        refine kz_gfc (M := kt_M440) (x := 4118) (c := 12) (o := 0) kX13_isConstant_c12.2.2.1 wf_X13_223 (.inl rfl) ?_
        refine kz_iload_n (M := kt_M440) kX13_isConstant_c12.2.2.2.1 rfl ?_
        refine kz_iald (M := kt_M440) (c := 12) (o := 0) (k := 46) (a := (E.2.1 4118)) kX13_isConstant_c12.2.2.2.2.1 ow_12_0_46 oa_12_0_46 ot_0 h (fun h => ?_)
        refine kz_bi (M := kt_M440) 9 kX13_isConstant_c12.2.2.2.2.2.1 rfl ?_
        refine kz_icmp_ne (M := kt_M440) kX13_isConstant_c12.2.2.2.2.2.2.1 (t := 251) rfl h (fun h => ?_) (fun h => ?_)
        · skip
          refine kz_aload_n (M := kt_M440) kX13_isConstant_c13.2.2.2.2.1 rfl ?_
          refine kz_gfc (M := kt_M440) (x := 4118) (c := 12) (o := 0) kX13_isConstant_c13.2.2.2.2.2.1 wf_X13_223 (.inl rfl) ?_
          refine kz_iload_n (M := kt_M440) kX13_isConstant_c13.2.2.2.2.2.2.1 rfl ?_
          refine kz_iald (M := kt_M440) (c := 12) (o := 0) (k := 46) (a := (E.2.1 4118)) kX13_isConstant_c13.2.2.2.2.2.2.2.1 ow_12_0_46 oa_12_0_46 ot_0 h (fun h => ?_)
          refine kz_ic (M := kt_M440) 2 kX13_isConstant_c14.1 rfl ?_
          refine kz_icmp_ne (M := kt_M440) kX13_isConstant_c14.2.1 (t := 274) rfl h (fun h => ?_) (fun h => ?_)
          · skip
            exact kz_weak [(0, .ref (w_adr E.2.1 12 0))] ⟨rfl, trivial⟩ rfl (zt_X13_isConstant_p274 hL  h)
          · skip
            refine kz_aload_n (M := kt_M440) kX13_isConstant_c14.2.2.1 rfl ?_
            refine kz_gfc (M := kt_M440) (x := 4140) (c := 12) (o := 0) kX13_isConstant_c14.2.2.2.1 wf_X13_272 (.inl rfl) ?_
            refine kz_iload_n (M := kt_M440) kX13_isConstant_c14.2.2.2.2.1 rfl ?_
            refine kz_zald (M := kt_M440) (c := 12) (o := 0) (k := 68) (a := (E.2.1 4140)) kX13_isConstant_c14.2.2.2.2.2.1 ow_12_0_68 oa_12_0_68 ot_2 h (fun h => ?_)
            refine kz_if_eq (M := kt_M440) kX13_isConstant_c14.2.2.2.2.2.2.1 (t := 274) rfl h (fun h => ?_) (fun h => ?_)
            · skip
              exact kz_weak [(0, .ref (w_adr E.2.1 12 0))] ⟨rfl, trivial⟩ rfl (zt_X13_isConstant_p274 hL  h)
            · skip
              refine kz_ic (M := kt_M440) 1 kX13_isConstant_c14.2.2.2.2.2.2.2.1 rfl ?_
              refine kz_goto (M := kt_M440) kX13_isConstant_c15.1 (t := 275) rfl ?_
              exact kz_weak [(0, .ref (w_adr E.2.1 12 0))] ⟨rfl, trivial⟩ rfl (zt_X13_isConstant_p275 hL  h)
        · skip
          refine kz_aload_n (M := kt_M440) kX13_isConstant_c12.2.2.2.2.2.2.2.1 rfl ?_
          refine kz_gfc (M := kt_M440) (x := 4143) (c := 12) (o := 0) kX13_isConstant_c13.1 wf_X13_281 (.inl rfl) ?_
          refine kz_iload_n (M := kt_M440) kX13_isConstant_c13.2.1 rfl ?_
          refine kz_zald (M := kt_M440) (c := 12) (o := 0) (k := 71) (a := (E.2.1 4143)) kX13_isConstant_c13.2.2.1 ow_12_0_71 oa_12_0_71 ot_2 h (fun h => ?_)
          exact kz_iretz (M := kt_M440) kX13_isConstant_c13.2.2.2.1 rfl h.1 h.2
      · skip
        exact kz_weak [(0, .ref (w_adr E.2.1 12 0))] ⟨rfl, trivial⟩ rfl (zt_X13_isConstant_p231 hL  h)
  · skip
    refine kz_aload_n (M := kt_M440) kX13_isConstant_c1.2.2.2.2.2.2.1 rfl ?_
    refine kz_gfc (M := kt_M440) (x := 4101) (c := 12) (o := 0) kX13_isConstant_c1.2.2.2.2.2.2.2.1 wf_X13_196 (.inl rfl) ?_
    refine kz_iload_n (M := kt_M440) kX13_isConstant_c2.1 rfl ?_
    refine kz_iald (M := kt_M440) (c := 12) (o := 0) (k := 29) (a := (E.2.1 4101)) kX13_isConstant_c2.2.1 ow_12_0_29 oa_12_0_29 ot_0 h (fun h => ?_)
    refine kz_bi (M := kt_M440) 27 kX13_isConstant_c2.2.2.1 rfl ?_
    refine kz_icmp_ne (M := kt_M440) kX13_isConstant_c2.2.2.2.1 (t := 125) rfl h (fun h => ?_) (fun h => ?_)
    · skip
      refine kz_aload_n (M := kt_M440) kX13_isConstant_c3.2.2.2.2.2.2.2.1 rfl ?_
      refine kz_aload_n (M := kt_M440) kX13_isConstant_c4.1 rfl ?_
      refine kz_gfc (M := kt_M440) (x := 4100) (c := 12) (o := 0) kX13_isConstant_c4.2.1 wf_X13_193 (.inl rfl) ?_
      refine kz_iload_n (M := kt_M440) kX13_isConstant_c4.2.2.1 rfl ?_
      refine kz_iald (M := kt_M440) (c := 12) (o := 0) (k := 28) (a := (E.2.1 4100)) kX13_isConstant_c4.2.2.2.1 ow_12_0_28 oa_12_0_28 ot_0 h (fun h => ?_)
      refine kz_cv1 (M := kt_M440) (c := 12) (o := 0) (As := [.int (w_a w 12 0 28 (x1).toNatClampNeg)]) (rest := []) kX13_isConstant_c4.2.2.2.2.1 wl_X13_816 wMv_440 rfl (.inl rfl) rfl (Nat.le_trans (Nat.le_of_ble_eq_true rfl) hL) (Nat.le_of_ble_eq_true rfl) (Nat.le_of_ble_eq_true rfl) h (fun v6 w5 hle h => ?_) (fun _ _ _ h => kzx_no rfl h)
      have h := h hle
      exact kz_weak [(0, .ref (w_adr E.2.1 12 0))] ⟨rfl, trivial⟩ rfl (zt_X13_isConstant_p135 hL  h)
    · skip
      refine kz_aload_n (M := kt_M440) kX13_isConstant_c2.2.2.2.2.1 rfl ?_
      refine kz_aload_n (M := kt_M440) kX13_isConstant_c2.2.2.2.2.2.1 rfl ?_
      refine kz_gfc (M := kt_M440) (x := 4100) (c := 12) (o := 0) kX13_isConstant_c2.2.2.2.2.2.2.1 wf_X13_193 (.inl rfl) ?_
      refine kz_iload_n (M := kt_M440) kX13_isConstant_c2.2.2.2.2.2.2.2.1 rfl ?_
      refine kz_iald (M := kt_M440) (c := 12) (o := 0) (k := 28) (a := (E.2.1 4100)) kX13_isConstant_c3.1 ow_12_0_28 oa_12_0_28 ot_0 h (fun h => ?_)
      refine kz_cv1 (M := kt_M440) (c := 12) (o := 0) (As := [.int (w_a w 12 0 28 (x1).toNatClampNeg)]) (rest := []) kX13_isConstant_c3.2.1 wl_X13_819 wMv_465 rfl (.inl rfl) rfl (Nat.le_trans (Nat.le_of_ble_eq_true rfl) hL) (Nat.le_of_ble_eq_true rfl) (Nat.le_of_ble_eq_true rfl) h (fun v8 w7 hle h => ?_) (fun _ _ _ h => kzx_no rfl h)
      have h := h hle
      refine kz_if_lt (M := kt_M440) kX13_isConstant_c3.2.2.1 (t := 121) rfl h (fun h => ?_) (fun h => ?_)
      · skip
        refine kz_ic (M := kt_M440) 0 kX13_isConstant_c3.2.2.2.2.2.1 rfl ?_
        refine kz_goto (M := kt_M440) kX13_isConstant_c3.2.2.2.2.2.2.1 (t := 135) rfl ?_
        exact kz_weak [(0, .ref (w_adr E.2.1 12 0))] ⟨rfl, trivial⟩ rfl (zt_X13_isConstant_p135 hL  h)
      · skip
        refine kz_ic (M := kt_M440) 1 kX13_isConstant_c3.2.2.2.1 rfl ?_
        refine kz_goto (M := kt_M440) kX13_isConstant_c3.2.2.2.2.1 (t := 135) rfl ?_
        exact kz_weak [(0, .ref (w_adr E.2.1 12 0))] ⟨rfl, trivial⟩ rfl (zt_X13_isConstant_p135 hL  h)
  · skip
    refine kz_aload_n (M := kt_M440) kX13_isConstant_c4.2.2.2.2.2.2.1 rfl ?_
    refine kz_aload_n (M := kt_M440) kX13_isConstant_c4.2.2.2.2.2.2.2.1 rfl ?_
    refine kz_gfc (M := kt_M440) (x := 4100) (c := 12) (o := 0) kX13_isConstant_c5.1 wf_X13_193 (.inl rfl) ?_
    refine kz_iload_n (M := kt_M440) kX13_isConstant_c5.2.1 rfl ?_
    refine kz_iald (M := kt_M440) (c := 12) (o := 0) (k := 28) (a := (E.2.1 4100)) kX13_isConstant_c5.2.2.1 ow_12_0_28 oa_12_0_28 ot_0 h (fun h => ?_)
    refine kz_cv1 (M := kt_M440) (c := 12) (o := 0) (As := [.int (w_a w 12 0 28 (x1).toNatClampNeg)]) (rest := []) kX13_isConstant_c5.2.2.2.1 wl_X13_816 wMv_440 rfl (.inl rfl) rfl (Nat.le_trans (Nat.le_of_ble_eq_true rfl) hL) (Nat.le_of_ble_eq_true rfl) (Nat.le_of_ble_eq_true rfl) h (fun v10 w9 hle h => ?_) (fun _ _ _ h => kzx_no rfl h)
    have h := h hle
    refine kz_if_eq (M := kt_M440) kX13_isConstant_c5.2.2.2.2.1 (t := 166) rfl h (fun h => ?_) (fun h => ?_)
    · skip
      exact kz_weak [(0, .ref (w_adr E.2.1 12 0))] ⟨rfl, trivial⟩ rfl (zt_X13_isConstant_p166 hL  h)
    · skip
      refine kz_aload_n (M := kt_M440) kX13_isConstant_c5.2.2.2.2.2.1 rfl ?_
      refine kz_aload_n (M := kt_M440) kX13_isConstant_c5.2.2.2.2.2.2.1 rfl ?_
      refine kz_gfc (M := kt_M440) (x := 4102) (c := 12) (o := 0) kX13_isConstant_c5.2.2.2.2.2.2.2.1 wf_X13_199 (.inl rfl) ?_
      refine kz_iload_n (M := kt_M440) kX13_isConstant_c6.1 rfl ?_
      refine kz_iald (M := kt_M440) (c := 12) (o := 0) (k := 30) (a := (E.2.1 4102)) kX13_isConstant_c6.2.1 ow_12_0_30 oa_12_0_30 ot_0 h (fun h => ?_)
      refine kz_cv1 (M := kt_M440) (c := 12) (o := 0) (As := [.int (w_a w9 12 0 30 (x1).toNatClampNeg)]) (rest := []) kX13_isConstant_c6.2.2.1 wl_X13_816 wMv_440 rfl (.inl rfl) rfl (Nat.le_trans (Nat.le_of_ble_eq_true rfl) hL) (Nat.le_of_ble_eq_true rfl) (Nat.le_of_ble_eq_true rfl) h (fun v12 w11 hle h => ?_) (fun _ _ _ h => kzx_no rfl h)
      have h := h hle
      refine kz_if_eq (M := kt_M440) kX13_isConstant_c6.2.2.2.1 (t := 166) rfl h (fun h => ?_) (fun h => ?_)
      · skip
        exact kz_weak [(0, .ref (w_adr E.2.1 12 0))] ⟨rfl, trivial⟩ rfl (zt_X13_isConstant_p166 hL  h)
      · skip
        refine kz_ic (M := kt_M440) 1 kX13_isConstant_c6.2.2.2.2.1 rfl ?_
        refine kz_goto (M := kt_M440) kX13_isConstant_c6.2.2.2.2.2.1 (t := 167) rfl ?_
        exact kz_weak [(0, .ref (w_adr E.2.1 12 0))] ⟨rfl, trivial⟩ rfl (zt_X13_isConstant_p167 hL  h)
  · skip
    refine kz_ic (M := kt_M440) 1 kX13_isConstant_c7.1 rfl ?_
    refine kz_sti_n (M := kt_M440) [(0, .ref (w_adr E.2.1 12 0)), (1, .int x1)] kX13_isConstant_c7.2.1 (Nat.le_of_ble_eq_true rfl) ⟨⟨rfl, rfl, .inl rfl⟩, ⟨⟨rfl, rfl, .inr rfl⟩, trivial⟩⟩ rfl ?_
    refine kz_aload_n (M := kt_M440) kX13_isConstant_c7.2.2.1 rfl ?_
    refine kz_gfc (M := kt_M440) (x := 4100) (c := 12) (o := 0) kX13_isConstant_c7.2.2.2.1 wf_X13_193 (.inl rfl) ?_
    refine kz_iload_n (M := kt_M440) kX13_isConstant_c7.2.2.2.2.1 rfl ?_
    refine kz_iald (M := kt_M440) (c := 12) (o := 0) (k := 28) (a := (E.2.1 4100)) kX13_isConstant_c7.2.2.2.2.2.1 ow_12_0_28 oa_12_0_28 ot_0 h (fun h => ?_)
    refine kz_sti_n (M := kt_M440) [(0, .ref (w_adr E.2.1 12 0)), (2, .int 1)] kX13_isConstant_c7.2.2.2.2.2.2.1 (Nat.le_of_ble_eq_true rfl) ⟨⟨rfl, rfl, .inl rfl⟩, ⟨⟨rfl, rfl, .inr rfl⟩, trivial⟩⟩ rfl ?_
    exact kz_weak [(0, .ref (w_adr E.2.1 12 0)), (2, .int 1), (3, .int (w_a w 12 0 28 (x1).toNatClampNeg))] ⟨rfl, ⟨rfl, ⟨rfl, trivial⟩⟩⟩ rfl h
  · skip
    refine kz_ic (M := kt_M440) 0 kX13_isConstant_c15.2.2.2.1 rfl ?_
    exact kz_iretz (M := kt_M440) kX13_isConstant_c15.2.2.2.2.1 rfl (by decide) h
def zL_X13_manyOf_p77 (E : zE) (L : Nat) (Q : kx_Rs → wS → Prop) (x2 : Int32) (x3 : Int32) (w : wS) : Prop := kzE E L kt_M465 77 [(0, .ref (w_adr E.2.1 12 0)), (2, .int x2), (3, .int x3)] [] w Q
def zb_X13_manyOf_p154 (E : zE) (L : Nat) (Q : kx_Rs → wS → Prop) (y0 : Int32) (w : wS) : Prop := Q (.inl (some (.int y0))) w
theorem zt_X13_manyOf_p154 {E : zE} {L : Nat} {Q : kx_Rs → wS → Prop} {y0 : Int32} {w : wS} (hL : 23 ≤ L) (h : zb_X13_manyOf_p154 E L Q y0 w) : kzE E L kt_M465 154 [(0, .ref (w_adr E.2.1 12 0))] [.int y0] w Q := by
  unfold zb_X13_manyOf_p154 at h
  exact kz_iret (M := kt_M465) kX13_manyOf_c8.2.1 rfl rfl h
def zb_X13_manyOf_p139 (E : zE) (L : Nat) (Q : kx_Rs → wS → Prop) (w : wS) : Prop := zb_X13_manyOf_p154 E L Q (-1) w
theorem zt_X13_manyOf_p139 {E : zE} {L : Nat} {Q : kx_Rs → wS → Prop} {w : wS} (hL : 23 ≤ L) (h : zb_X13_manyOf_p139 E L Q  w) : kzE E L kt_M465 139 [(0, .ref (w_adr E.2.1 12 0))] [] w Q := by
  unfold zb_X13_manyOf_p139 at h
  refine kz_ic (M := kt_M465) (-1) kX13_manyOf_c7.1 rfl ?_
  refine kz_goto (M := kt_M465) kX13_manyOf_c7.2.1 (t := 154) rfl ?_
  exact kz_weak [(0, .ref (w_adr E.2.1 12 0))] ⟨rfl, trivial⟩ rfl (zt_X13_manyOf_p154 hL  h)
def zb_X13_manyOf_p77 (E : zE) (L : Nat) (Q : kx_Rs → wS → Prop) (x2 : Int32) (x3 : Int32) (w : wS) : Prop := (if x3 < 0 then Q (.inl (some (.int x2))) w else (kx_inb x3 (w_n w 12 0 32) = true ∧ zL_X13_manyOf_p77 E L Q (x2 + 1) (w_a w 12 0 32 (x3).toNatClampNeg) w))
theorem zt_X13_manyOf_p77 {E : zE} {L : Nat} {Q : kx_Rs → wS → Prop} {x2 : Int32} {x3 : Int32} {w : wS} (hL : 23 ≤ L) (h : zb_X13_manyOf_p77 E L Q x2 x3 w) : kzE E L kt_M465 77 [(0, .ref (w_adr E.2.1 12 0)), (2, .int x2), (3, .int x3)] [] w Q := by
  unfold zb_X13_manyOf_p77 at h
  refine kz_iload_n (M := kt_M465) kX13_manyOf_c2.2.2.2.2.1 rfl ?_
  refine kz_if_lt (M := kt_M465) kX13_manyOf_c2.2.2.2.2.2.1 (t := 94) rfl h (fun h => ?_) (fun h => ?_)
  · skip
    refine kz_iload_n (M := kt_M465) kX13_manyOf_c3.2.2.2.2.2.1 rfl ?_
    exact kz_iret (M := kt_M465) kX13_manyOf_c3.2.2.2.2.2.2.1 rfl rfl h
  · skip
    refine kz_inc (M := kt_M465) [(0, .ref (w_adr E.2.1 12 0)), (3, .int x3)] kX13_manyOf_c2.2.2.2.2.2.2.1 rfl (Nat.le_of_ble_eq_true rfl) ⟨⟨rfl, rfl, .inl rfl⟩, ⟨⟨rfl, rfl, .inl rfl⟩, trivial⟩⟩ rfl ?_
    refine kz_aload_n (M := kt_M465) kX13_manyOf_c2.2.2.2.2.2.2.2.1 rfl ?_
    refine kz_gfc (M := kt_M465) (x := 4104) (c := 12) (o := 0) kX13_manyOf_c3.1 wf_X13_205 (.inl rfl) ?_
    refine kz_iload_n (M := kt_M465) kX13_manyOf_c3.2.1 rfl ?_
    refine kz_iald (M := kt_M465) (c := 12) (o := 0) (k := 32) (a := (E.2.1 4104)) kX13_manyOf_c3.2.2.1 ow_12_0_32 oa_12_0_32 ot_0 h (fun h => ?_)
    refine kz_sti_n (M := kt_M465) [(0, .ref (w_adr E.2.1 12 0)), (2, .int (x2 + 1))] kX13_manyOf_c3.2.2.2.1 (Nat.le_of_ble_eq_true rfl) ⟨⟨rfl, rfl, .inl rfl⟩, ⟨⟨rfl, rfl, .inr rfl⟩, trivial⟩⟩ rfl ?_
    refine kz_goto (M := kt_M465) kX13_manyOf_c3.2.2.2.2.1 (t := 77) rfl ?_
    exact kz_weak [(0, .ref (w_adr E.2.1 12 0)), (2, .int (x2 + 1)), (3, .int (w_a w 12 0 32 (x3).toNatClampNeg))] ⟨rfl, ⟨rfl, ⟨rfl, trivial⟩⟩⟩ rfl h
def zb_X13_manyOf_p0 (E : zE) (L : Nat) (Q : kx_Rs → wS → Prop) (x1 : Int32) (w : wS) : Prop := (kx_inb x1 (w_n w 12 0 26) = true ∧ (if w_a w 12 0 26 (x1).toNatClampNeg = 52 then (kx_inb x1 (w_n w 12 0 28) = true ∧ (kx_inb (w_a w 12 0 28 (x1).toNatClampNeg) (w_n w 12 0 20) = true ∧ Q (.inl (some (.int (w_a w 12 0 20 (w_a w 12 0 28 (x1).toNatClampNeg).toNatClampNeg)))) w)) else (if w_a w 12 0 26 (x1).toNatClampNeg = 58 then (kx_inb x1 (w_n w 12 0 28) = true ∧ zw E (L - 23) kt_M465 [.ref (w_adr E.2.1 12 0), .int (w_a w 12 0 28 (x1).toNatClampNeg)] w (wk1 (fun v2 w1 => wle w w1 → Q (.inl (some (.int v2))) w1) (fun e w => Q (.inr e) w))) else (if w_a w 12 0 26 (x1).toNatClampNeg = 59 then (kx_inb x1 (w_n w 12 0 28) = true ∧ zL_X13_manyOf_p77 E L Q 0 (w_a w 12 0 28 (x1).toNatClampNeg) w) else (if w_a w 12 0 26 (x1).toNatClampNeg = 60 then (kx_inb x1 (w_n w 12 0 28) = true ∧ (if 0 ≤ w_a w 12 0 28 (x1).toNatClampNeg then zb_X13_manyOf_p139 E L Q w else (kx_inb x1 (w_n w 12 0 31) = true ∧ (if w_a w 12 0 31 (x1).toNatClampNeg < 0 then zb_X13_manyOf_p139 E L Q w else (kx_inb x1 (w_n w 12 0 31) = true ∧ (kx_inb (w_a w 12 0 31 (x1).toNatClampNeg) (w_n w 12 0 48) = true ∧ (if 0 ≤ w_a w 12 0 48 (w_a w 12 0 31 (x1).toNatClampNeg).toNatClampNeg then (kx_inb x1 (w_n w 12 0 31) = true ∧ (kx_inb (w_a w 12 0 31 (x1).toNatClampNeg) (w_n w 12 0 48) = true ∧ zb_X13_manyOf_p154 E L Q (w_a w 12 0 48 (w_a w 12 0 31 (x1).toNatClampNeg).toNatClampNeg) w)) else zb_X13_manyOf_p139 E L Q w))))))) else Q (.inl (some (.int (-1)))) w)))))
theorem zt_X13_manyOf_p0 {E : zE} {L : Nat} {Q : kx_Rs → wS → Prop} {x1 : Int32} {w : wS} (hL : 23 ≤ L) (h : zb_X13_manyOf_p0 E L Q x1 w) : kzE E L kt_M465 0 [(0, .ref (w_adr E.2.1 12 0)), (1, .int x1)] [] w Q := by
  unfold zb_X13_manyOf_p0 at h
  refine kz_aload_n (M := kt_M465) kX13_manyOf_c0.1 rfl ?_
  refine kz_gfc (M := kt_M465) (x := 4098) (c := 12) (o := 0) kX13_manyOf_c0.2.1 wf_X13_187 (.inl rfl) ?_
  refine kz_iload_n (M := kt_M465) kX13_manyOf_c0.2.2.1 rfl ?_
  refine kz_iald (M := kt_M465) (c := 12) (o := 0) (k := 26) (a := (E.2.1 4098)) kX13_manyOf_c0.2.2.2.1 ow_12_0_26 oa_12_0_26 ot_0 h (fun h => ?_)
  refine kz_tsw (M := kt_M465) [(52, 56), (58, 96), (59, 68), (60, 107)] [_, _, _, _] 155 dX13_manyOf_p6 (by decide +kernel) h ⟨fun h => ?_, fun h => ?_, fun h => ?_, fun h => ?_, trivial⟩ (fun h => ?_)
  · skip
    refine kz_aload_n (M := kt_M465) kX13_manyOf_c0.2.2.2.2.2.1 rfl ?_
    refine kz_gfc (M := kt_M465) (x := 4092) (c := 12) (o := 0) kX13_manyOf_c0.2.2.2.2.2.2.1 wf_X13_181 (.inl rfl) ?_
    refine kz_aload_n (M := kt_M465) kX13_manyOf_c0.2.2.2.2.2.2.2.1 rfl ?_
    refine kz_gfc (M := kt_M465) (x := 4100) (c := 12) (o := 0) kX13_manyOf_c1.1 wf_X13_193 (.inl rfl) ?_
    refine kz_iload_n (M := kt_M465) kX13_manyOf_c1.2.1 rfl ?_
    refine kz_iald (M := kt_M465) (c := 12) (o := 0) (k := 28) (a := (E.2.1 4100)) kX13_manyOf_c1.2.2.1 ow_12_0_28 oa_12_0_28 ot_0 h (fun h => ?_)
    refine kz_iald (M := kt_M465) (c := 12) (o := 0) (k := 20) (a := (E.2.1 4092)) kX13_manyOf_c1.2.2.2.1 ow_12_0_20 oa_12_0_20 ot_0 h (fun h => ?_)
    exact kz_iret (M := kt_M465) kX13_manyOf_c1.2.2.2.2.1 rfl rfl h
  · skip
    refine kz_aload_n (M := kt_M465) kX13_manyOf_c3.2.2.2.2.2.2.2.1 rfl ?_
    refine kz_aload_n (M := kt_M465) kX13_manyOf_c4.1 rfl ?_
    refine kz_gfc (M := kt_M465) (x := 4100) (c := 12) (o := 0) kX13_manyOf_c4.2.1 wf_X13_193 (.inl rfl) ?_
    refine kz_iload_n (M := kt_M465) kX13_manyOf_c4.2.2.1 rfl ?_
    refine kz_iald (M := kt_M465) (c := 12) (o := 0) (k := 28) (a := (E.2.1 4100)) kX13_manyOf_c4.2.2.2.1 ow_12_0_28 oa_12_0_28 ot_0 h (fun h => ?_)
    refine kz_cv1 (M := kt_M465) (c := 12) (o := 0) (As := [.int (w_a w 12 0 28 (x1).toNatClampNeg)]) (rest := []) kX13_manyOf_c4.2.2.2.2.1 wl_X13_819 wMv_465 rfl (.inl rfl) rfl (Nat.le_trans (Nat.le_of_ble_eq_true rfl) hL) (Nat.le_of_ble_eq_true rfl) (Nat.le_of_ble_eq_true rfl) h (fun v2 w1 hle h => ?_) (fun _ _ _ h => kzx_no rfl h)
    have h := h hle
    exact kz_iret (M := kt_M465) kX13_manyOf_c4.2.2.2.2.2.1 rfl rfl h
  · skip
    refine kz_ic (M := kt_M465) 0 kX13_manyOf_c1.2.2.2.2.2.1 rfl ?_
    refine kz_sti_n (M := kt_M465) [(0, .ref (w_adr E.2.1 12 0)), (1, .int x1)] kX13_manyOf_c1.2.2.2.2.2.2.1 (Nat.le_of_ble_eq_true rfl) ⟨⟨rfl, rfl, .inl rfl⟩, ⟨⟨rfl, rfl, .inr rfl⟩, trivial⟩⟩ rfl ?_
    refine kz_aload_n (M := kt_M465) kX13_manyOf_c1.2.2.2.2.2.2.2.1 rfl ?_
    refine kz_gfc (M := kt_M465) (x := 4100) (c := 12) (o := 0) kX13_manyOf_c2.1 wf_X13_193 (.inl rfl) ?_
    refine kz_iload_n (M := kt_M465) kX13_manyOf_c2.2.1 rfl ?_
    refine kz_iald (M := kt_M465) (c := 12) (o := 0) (k := 28) (a := (E.2.1 4100)) kX13_manyOf_c2.2.2.1 ow_12_0_28 oa_12_0_28 ot_0 h (fun h => ?_)
    refine kz_sti_n (M := kt_M465) [(0, .ref (w_adr E.2.1 12 0)), (2, .int 0)] kX13_manyOf_c2.2.2.2.1 (Nat.le_of_ble_eq_true rfl) ⟨⟨rfl, rfl, .inl rfl⟩, ⟨⟨rfl, rfl, .inr rfl⟩, trivial⟩⟩ rfl ?_
    exact kz_weak [(0, .ref (w_adr E.2.1 12 0)), (2, .int 0), (3, .int (w_a w 12 0 28 (x1).toNatClampNeg))] ⟨rfl, ⟨rfl, ⟨rfl, trivial⟩⟩⟩ rfl h
  · skip
    refine kz_aload_n (M := kt_M465) kX13_manyOf_c4.2.2.2.2.2.2.1 rfl ?_
    refine kz_gfc (M := kt_M465) (x := 4100) (c := 12) (o := 0) kX13_manyOf_c4.2.2.2.2.2.2.2.1 wf_X13_193 (.inl rfl) ?_
    refine kz_iload_n (M := kt_M465) kX13_manyOf_c5.1 rfl ?_
    refine kz_iald (M := kt_M465) (c := 12) (o := 0) (k := 28) (a := (E.2.1 4100)) kX13_manyOf_c5.2.1 ow_12_0_28 oa_12_0_28 ot_0 h (fun h => ?_)
    refine kz_if_ge (M := kt_M465) kX13_manyOf_c5.2.2.1 (t := 139) rfl h (fun h => ?_) (fun h => ?_)
    · skip
      exact kz_weak [(0, .ref (w_adr E.2.1 12 0))] ⟨rfl, trivial⟩ rfl (zt_X13_manyOf_p139 hL  h)
    · skip
      refine kz_aload_n (M := kt_M465) kX13_manyOf_c5.2.2.2.1 rfl ?_
      refine kz_gfc (M := kt_M465) (x := 4103) (c := 12) (o := 0) kX13_manyOf_c5.2.2.2.2.1 wf_X13_202 (.inl rfl) ?_
      refine kz_iload_n (M := kt_M465) kX13_manyOf_c5.2.2.2.2.2.1 rfl ?_
      refine kz_iald (M := kt_M465) (c := 12) (o := 0) (k := 31) (a := (E.2.1 4103)) kX13_manyOf_c5.2.2.2.2.2.2.1 ow_12_0_31 oa_12_0_31 ot_0 h (fun h => ?_)
      refine kz_if_lt (M := kt_M465) kX13_manyOf_c5.2.2.2.2.2.2.2.1 (t := 139) rfl h (fun h => ?_) (fun h => ?_)
      · skip
        exact kz_weak [(0, .ref (w_adr E.2.1 12 0))] ⟨rfl, trivial⟩ rfl (zt_X13_manyOf_p139 hL  h)
      · skip
        refine kz_aload_n (M := kt_M465) kX13_manyOf_c6.1 rfl ?_
        refine kz_gfc (M := kt_M465) (x := 4120) (c := 12) (o := 0) kX13_manyOf_c6.2.1 wf_X13_229 (.inl rfl) ?_
        refine kz_aload_n (M := kt_M465) kX13_manyOf_c6.2.2.1 rfl ?_
        refine kz_gfc (M := kt_M465) (x := 4103) (c := 12) (o := 0) kX13_manyOf_c6.2.2.2.1 wf_X13_202 (.inl rfl) ?_
        refine kz_iload_n (M := kt_M465) kX13_manyOf_c6.2.2.2.2.1 rfl ?_
        refine kz_iald (M := kt_M465) (c := 12) (o := 0) (k := 31) (a := (E.2.1 4103)) kX13_manyOf_c6.2.2.2.2.2.1 ow_12_0_31 oa_12_0_31 ot_0 h (fun h => ?_)
        refine kz_iald (M := kt_M465) (c := 12) (o := 0) (k := 48) (a := (E.2.1 4120)) kX13_manyOf_c6.2.2.2.2.2.2.1 ow_12_0_48 oa_12_0_48 ot_0 h (fun h => ?_)
        refine kz_if_ge (M := kt_M465) kX13_manyOf_c6.2.2.2.2.2.2.2.1 (t := 143) rfl h (fun h => ?_) (fun h => ?_)
        · skip
          refine kz_aload_n (M := kt_M465) kX13_manyOf_c7.2.2.1 rfl ?_
          refine kz_gfc (M := kt_M465) (x := 4120) (c := 12) (o := 0) kX13_manyOf_c7.2.2.2.1 wf_X13_229 (.inl rfl) ?_
          refine kz_aload_n (M := kt_M465) kX13_manyOf_c7.2.2.2.2.1 rfl ?_
          refine kz_gfc (M := kt_M465) (x := 4103) (c := 12) (o := 0) kX13_manyOf_c7.2.2.2.2.2.1 wf_X13_202 (.inl rfl) ?_
          refine kz_iload_n (M := kt_M465) kX13_manyOf_c7.2.2.2.2.2.2.1 rfl ?_
          refine kz_iald (M := kt_M465) (c := 12) (o := 0) (k := 31) (a := (E.2.1 4103)) kX13_manyOf_c7.2.2.2.2.2.2.2.1 ow_12_0_31 oa_12_0_31 ot_0 h (fun h => ?_)
          refine kz_iald (M := kt_M465) (c := 12) (o := 0) (k := 48) (a := (E.2.1 4120)) kX13_manyOf_c8.1 ow_12_0_48 oa_12_0_48 ot_0 h (fun h => ?_)
          exact kz_weak [(0, .ref (w_adr E.2.1 12 0))] ⟨rfl, trivial⟩ rfl (zt_X13_manyOf_p154 hL  h)
        · skip
          exact kz_weak [(0, .ref (w_adr E.2.1 12 0))] ⟨rfl, trivial⟩ rfl (zt_X13_manyOf_p139 hL  h)
  · skip
    refine kz_ic (M := kt_M465) (-1) kX13_manyOf_c8.2.2.1 rfl ?_
    exact kz_iret (M := kt_M465) kX13_manyOf_c8.2.2.2.1 rfl rfl h
def zL_X13_hasValue_p313 (E : zE) (L : Nat) (Q : kx_Rs → wS → Prop) (x1 : Int32) (x2 : Int32) (x3 : Int32) (w : wS) : Prop := kzE E L kt_M428 313 [(0, .ref (w_adr E.2.1 12 0)), (1, .int x1), (2, .int x2), (3, .int x3)] [] w Q
def zb_X13_hasValue_p395 (E : zE) (L : Nat) (Q : kx_Rs → wS → Prop) (y0 : Int32) (w : wS) : Prop := Q (.inl (some (.int 1))) (ws_i w 12 0 24 y0)
theorem zt_X13_hasValue_p395 {E : zE} {L : Nat} {Q : kx_Rs → wS → Prop} {y0 : Int32} {w : wS} (hL : 24 ≤ L) (h : zb_X13_hasValue_p395 E L Q y0 w) : kzE E L kt_M428 395 [(0, .ref (w_adr E.2.1 12 0))] [.int y0, .ref (w_adr E.2.1 12 0)] w Q := by
  unfold zb_X13_hasValue_p395 at h
  refine kz_pfi (M := kt_M428) (c := 12) (o := 0) kX13_hasValue_c25.1 wq_X13_493 (.inl rfl) ?_
  refine kz_ic (M := kt_M428) 1 kX13_hasValue_c25.2.1 rfl ?_
  exact kz_iretz (M := kt_M428) kX13_hasValue_c25.2.2.1 rfl (by decide) h
def zb_X13_hasValue_p374 (E : zE) (L : Nat) (Q : kx_Rs → wS → Prop) (x1 : Int32) (x3 : Int32) (y0 : Int32) (w : wS) : Prop := (kx_inb x3 (w_n w 12 0 32) = true ∧ zL_X13_hasValue_p313 E L Q x1 y0 (w_a w 12 0 32 (x3).toNatClampNeg) w)
theorem zt_X13_hasValue_p374 {E : zE} {L : Nat} {Q : kx_Rs → wS → Prop} {x1 : Int32} {x3 : Int32} {y0 : Int32} {w : wS} (hL : 24 ≤ L) (h : zb_X13_hasValue_p374 E L Q x1 x3 y0 w) : kzE E L kt_M428 374 [(0, .ref (w_adr E.2.1 12 0)), (1, .int x1), (3, .int x3)] [.int y0] w Q := by
  unfold zb_X13_hasValue_p374 at h
  refine kz_sti_n (M := kt_M428) [(0, .ref (w_adr E.2.1 12 0)), (1, .int x1), (3, .int x3)] kX13_hasValue_c23.2.2.2.1 (Nat.le_of_ble_eq_true rfl) ⟨⟨rfl, rfl, .inl rfl⟩, ⟨⟨rfl, rfl, .inr rfl⟩, ⟨⟨rfl, rfl, .inl rfl⟩, trivial⟩⟩⟩ rfl ?_
  refine kz_aload_n (M := kt_M428) kX13_hasValue_c23.2.2.2.2.1 rfl ?_
  refine kz_gfc (M := kt_M428) (x := 4104) (c := 12) (o := 0) kX13_hasValue_c23.2.2.2.2.2.1 wf_X13_205 (.inl rfl) ?_
  refine kz_iload_n (M := kt_M428) kX13_hasValue_c23.2.2.2.2.2.2.1 rfl ?_
  refine kz_iald (M := kt_M428) (c := 12) (o := 0) (k := 32) (a := (E.2.1 4104)) kX13_hasValue_c23.2.2.2.2.2.2.2.1 ow_12_0_32 oa_12_0_32 ot_0 h (fun h => ?_)
  refine kz_sti_n (M := kt_M428) [(0, .ref (w_adr E.2.1 12 0)), (1, .int x1), (2, .int y0)] kX13_hasValue_c24.1 (Nat.le_of_ble_eq_true rfl) ⟨⟨rfl, rfl, .inl rfl⟩, ⟨⟨rfl, rfl, .inl rfl⟩, ⟨⟨rfl, rfl, .inr rfl⟩, trivial⟩⟩⟩ rfl ?_
  refine kz_goto (M := kt_M428) kX13_hasValue_c24.2.1 (t := 313) rfl ?_
  exact kz_weak [(0, .ref (w_adr E.2.1 12 0)), (1, .int x1), (2, .int y0), (3, .int (w_a w 12 0 32 (x3).toNatClampNeg))] ⟨rfl, ⟨rfl, ⟨rfl, ⟨rfl, trivial⟩⟩⟩⟩ rfl h
def zb_X13_hasValue_p369 (E : zE) (L : Nat) (Q : kx_Rs → wS → Prop) (x1 : Int32) (x3 : Int32) (w : wS) : Prop := zb_X13_hasValue_p374 E L Q x1 x3 1 w
theorem zt_X13_hasValue_p369 {E : zE} {L : Nat} {Q : kx_Rs → wS → Prop} {x1 : Int32} {x3 : Int32} {w : wS} (hL : 24 ≤ L) (h : zb_X13_hasValue_p369 E L Q x1 x3 w) : kzE E L kt_M428 369 [(0, .ref (w_adr E.2.1 12 0)), (1, .int x1), (3, .int x3)] [] w Q := by
  unfold zb_X13_hasValue_p369 at h
  refine kz_ic (M := kt_M428) 1 kX13_hasValue_c23.1 rfl ?_
  refine kz_goto (M := kt_M428) kX13_hasValue_c23.2.1 (t := 374) rfl ?_
  exact kz_weak [(0, .ref (w_adr E.2.1 12 0)), (1, .int x1), (3, .int x3)] ⟨rfl, ⟨rfl, ⟨rfl, trivial⟩⟩⟩ rfl (zt_X13_hasValue_p374 hL  h)
def zb_X13_hasValue_p353 (E : zE) (L : Nat) (Q : kx_Rs → wS → Prop) (x1 : Int32) (x3 : Int32) (w : wS) : Prop := zb_X13_hasValue_p374 E L Q x1 x3 0 w
theorem zt_X13_hasValue_p353 {E : zE} {L : Nat} {Q : kx_Rs → wS → Prop} {x1 : Int32} {x3 : Int32} {w : wS} (hL : 24 ≤ L) (h : zb_X13_hasValue_p353 E L Q x1 x3 w) : kzE E L kt_M428 353 [(0, .ref (w_adr E.2.1 12 0)), (1, .int x1), (3, .int x3)] [] w Q := by
  unfold zb_X13_hasValue_p353 at h
  refine kz_ic (M := kt_M428) 0 kX13_hasValue_c22.1 rfl ?_
  refine kz_goto (M := kt_M428) kX13_hasValue_c22.2.1 (t := 374) rfl ?_
  exact kz_weak [(0, .ref (w_adr E.2.1 12 0)), (1, .int x1), (3, .int x3)] ⟨rfl, ⟨rfl, ⟨rfl, trivial⟩⟩⟩ rfl (zt_X13_hasValue_p374 hL  h)
def zb_X13_hasValue_p313 (E : zE) (L : Nat) (Q : kx_Rs → wS → Prop) (x1 : Int32) (x2 : Int32) (x3 : Int32) (w : wS) : Prop := (if x3 < 0 then (if x2 = 0 then zb_X13_hasValue_p395 E L Q 0 w else zb_X13_hasValue_p395 E L Q 1 w) else zw E (L - 23) kt_M428 [.ref (w_adr E.2.1 12 0), .int x3] w (wk1 (fun v2 w1 => wle w w1 → (if ¬ v2 = 0 then (kx_inb x1 (w_n w1 12 0 29) = true ∧ (if ¬ w_a w1 12 0 29 (x1).toNatClampNeg = 2 then (if ¬ x2 = 0 then zb_X13_hasValue_p369 E L Q x1 x3 w1 else (if ¬ w_i w1 12 0 24 = 1 then zb_X13_hasValue_p374 E L Q x1 x3 0 w1 else zb_X13_hasValue_p369 E L Q x1 x3 w1)) else (if x2 = 0 then zb_X13_hasValue_p353 E L Q x1 x3 w1 else (if ¬ w_i w1 12 0 24 = 1 then zb_X13_hasValue_p353 E L Q x1 x3 w1 else zb_X13_hasValue_p374 E L Q x1 x3 1 w1)))) else Q (.inl (some (.int 0))) w1)) (fun e w => Q (.inr e) w)))
theorem zt_X13_hasValue_p313 {E : zE} {L : Nat} {Q : kx_Rs → wS → Prop} {x1 : Int32} {x2 : Int32} {x3 : Int32} {w : wS} (hL : 24 ≤ L) (h : zb_X13_hasValue_p313 E L Q x1 x2 x3 w) : kzE E L kt_M428 313 [(0, .ref (w_adr E.2.1 12 0)), (1, .int x1), (2, .int x2), (3, .int x3)] [] w Q := by
  unfold zb_X13_hasValue_p313 at h
  refine kz_iload_n (M := kt_M428) kX13_hasValue_c19.2.2.1 rfl ?_
  refine kz_if_lt (M := kt_M428) kX13_hasValue_c19.2.2.2.1 (t := 385) rfl h (fun h => ?_) (fun h => ?_)
  · skip
    refine kz_aload_n (M := kt_M428) kX13_hasValue_c24.2.2.1 rfl ?_
    refine kz_iload_n (M := kt_M428) kX13_hasValue_c24.2.2.2.1 rfl ?_
    refine kz_if_eq (M := kt_M428) kX13_hasValue_c24.2.2.2.2.1 (t := 394) rfl h (fun h => ?_) (fun h => ?_)
    · skip
      refine kz_ic (M := kt_M428) 0 kX13_hasValue_c24.2.2.2.2.2.2.2.1 rfl ?_
      exact kz_weak [(0, .ref (w_adr E.2.1 12 0))] ⟨rfl, trivial⟩ rfl (zt_X13_hasValue_p395 hL  h)
    · skip
      refine kz_ic (M := kt_M428) 1 kX13_hasValue_c24.2.2.2.2.2.1 rfl ?_
      refine kz_goto (M := kt_M428) kX13_hasValue_c24.2.2.2.2.2.2.1 (t := 395) rfl ?_
      exact kz_weak [(0, .ref (w_adr E.2.1 12 0))] ⟨rfl, trivial⟩ rfl (zt_X13_hasValue_p395 hL  h)
  · skip
    refine kz_aload_n (M := kt_M428) kX13_hasValue_c19.2.2.2.2.1 rfl ?_
    refine kz_iload_n (M := kt_M428) kX13_hasValue_c19.2.2.2.2.2.1 rfl ?_
    refine kz_cv1 (M := kt_M428) (c := 12) (o := 0) (As := [.int x3]) (rest := []) kX13_hasValue_c19.2.2.2.2.2.2.1 wl_X13_846 wMv_428 rfl (.inl rfl) rfl (Nat.le_trans (Nat.le_of_ble_eq_true rfl) hL) (Nat.le_of_ble_eq_true rfl) (Nat.le_of_ble_eq_true rfl) h (fun v2 w1 hle h => ?_) (fun _ _ _ h => kzx_no rfl h)
    have h := h hle
    refine kz_if_ne (M := kt_M428) kX13_hasValue_c19.2.2.2.2.2.2.2.1 (t := 327) rfl h (fun h => ?_) (fun h => ?_)
    · skip
      refine kz_aload_n (M := kt_M428) kX13_hasValue_c20.2.2.1 rfl ?_
      refine kz_gfc (M := kt_M428) (x := 4101) (c := 12) (o := 0) kX13_hasValue_c20.2.2.2.1 wf_X13_196 (.inl rfl) ?_
      refine kz_iload_n (M := kt_M428) kX13_hasValue_c20.2.2.2.2.1 rfl ?_
      refine kz_iald (M := kt_M428) (c := 12) (o := 0) (k := 29) (a := (E.2.1 4101)) kX13_hasValue_c20.2.2.2.2.2.1 ow_12_0_29 oa_12_0_29 ot_0 h (fun h => ?_)
      refine kz_ic (M := kt_M428) 2 kX13_hasValue_c20.2.2.2.2.2.2.1 rfl ?_
      refine kz_icmp_ne (M := kt_M428) kX13_hasValue_c20.2.2.2.2.2.2.2.1 (t := 357) rfl h (fun h => ?_) (fun h => ?_)
      · skip
        refine kz_iload_n (M := kt_M428) kX13_hasValue_c22.2.2.1 rfl ?_
        refine kz_if_ne (M := kt_M428) kX13_hasValue_c22.2.2.2.1 (t := 369) rfl h (fun h => ?_) (fun h => ?_)
        · skip
          exact kz_weak [(0, .ref (w_adr E.2.1 12 0)), (1, .int x1), (3, .int x3)] ⟨rfl, ⟨rfl, ⟨rfl, trivial⟩⟩⟩ rfl (zt_X13_hasValue_p369 hL  h)
        · skip
          refine kz_aload_n (M := kt_M428) kX13_hasValue_c22.2.2.2.2.1 rfl ?_
          refine kz_gfi (M := kt_M428) (c := 12) (o := 0) kX13_hasValue_c22.2.2.2.2.2.1 wf_X13_493 (.inl rfl) ?_
          refine kz_ic (M := kt_M428) 1 kX13_hasValue_c22.2.2.2.2.2.2.1 rfl ?_
          refine kz_icmp_ne (M := kt_M428) kX13_hasValue_c22.2.2.2.2.2.2.2.1 (t := 373) rfl h (fun h => ?_) (fun h => ?_)
          · skip
            refine kz_ic (M := kt_M428) 0 kX13_hasValue_c23.2.2.1 rfl ?_
            exact kz_weak [(0, .ref (w_adr E.2.1 12 0)), (1, .int x1), (3, .int x3)] ⟨rfl, ⟨rfl, ⟨rfl, trivial⟩⟩⟩ rfl (zt_X13_hasValue_p374 hL  h)
          · skip
            exact kz_weak [(0, .ref (w_adr E.2.1 12 0)), (1, .int x1), (3, .int x3)] ⟨rfl, ⟨rfl, ⟨rfl, trivial⟩⟩⟩ rfl (zt_X13_hasValue_p369 hL  h)
      · skip
        refine kz_iload_n (M := kt_M428) kX13_hasValue_c21.1 rfl ?_
        refine kz_if_eq (M := kt_M428) kX13_hasValue_c21.2.1 (t := 353) rfl h (fun h => ?_) (fun h => ?_)
        · skip
          exact kz_weak [(0, .ref (w_adr E.2.1 12 0)), (1, .int x1), (3, .int x3)] ⟨rfl, ⟨rfl, ⟨rfl, trivial⟩⟩⟩ rfl (zt_X13_hasValue_p353 hL  h)
        · skip
          refine kz_aload_n (M := kt_M428) kX13_hasValue_c21.2.2.1 rfl ?_
          refine kz_gfi (M := kt_M428) (c := 12) (o := 0) kX13_hasValue_c21.2.2.2.1 wf_X13_493 (.inl rfl) ?_
          refine kz_ic (M := kt_M428) 1 kX13_hasValue_c21.2.2.2.2.1 rfl ?_
          refine kz_icmp_ne (M := kt_M428) kX13_hasValue_c21.2.2.2.2.2.1 (t := 353) rfl h (fun h => ?_) (fun h => ?_)
          · skip
            exact kz_weak [(0, .ref (w_adr E.2.1 12 0)), (1, .int x1), (3, .int x3)] ⟨rfl, ⟨rfl, ⟨rfl, trivial⟩⟩⟩ rfl (zt_X13_hasValue_p353 hL  h)
          · skip
            refine kz_ic (M := kt_M428) 1 kX13_hasValue_c21.2.2.2.2.2.2.1 rfl ?_
            refine kz_goto (M := kt_M428) kX13_hasValue_c21.2.2.2.2.2.2.2.1 (t := 374) rfl ?_
            exact kz_weak [(0, .ref (w_adr E.2.1 12 0)), (1, .int x1), (3, .int x3)] ⟨rfl, ⟨rfl, ⟨rfl, trivial⟩⟩⟩ rfl (zt_X13_hasValue_p374 hL  h)
    · skip
      refine kz_ic (M := kt_M428) 0 kX13_hasValue_c20.1 rfl ?_
      exact kz_iretz (M := kt_M428) kX13_hasValue_c20.2.1 rfl (by decide) h
def zb_X13_hasValue_p305 (E : zE) (L : Nat) (Q : kx_Rs → wS → Prop) (x1 : Int32) (y0 : Int32) (w : wS) : Prop := (kx_inb x1 (w_n w 12 0 28) = true ∧ zL_X13_hasValue_p313 E L Q x1 y0 (w_a w 12 0 28 (x1).toNatClampNeg) w)
theorem zt_X13_hasValue_p305 {E : zE} {L : Nat} {Q : kx_Rs → wS → Prop} {x1 : Int32} {y0 : Int32} {w : wS} (hL : 24 ≤ L) (h : zb_X13_hasValue_p305 E L Q x1 y0 w) : kzE E L kt_M428 305 [(0, .ref (w_adr E.2.1 12 0)), (1, .int x1)] [.int y0] w Q := by
  unfold zb_X13_hasValue_p305 at h
  refine kz_sti_n (M := kt_M428) [(0, .ref (w_adr E.2.1 12 0)), (1, .int x1)] kX13_hasValue_c18.2.2.2.2.1 (Nat.le_of_ble_eq_true rfl) ⟨⟨rfl, rfl, .inl rfl⟩, ⟨⟨rfl, rfl, .inr rfl⟩, trivial⟩⟩ rfl ?_
  refine kz_aload_n (M := kt_M428) kX13_hasValue_c18.2.2.2.2.2.1 rfl ?_
  refine kz_gfc (M := kt_M428) (x := 4100) (c := 12) (o := 0) kX13_hasValue_c18.2.2.2.2.2.2.1 wf_X13_193 (.inl rfl) ?_
  refine kz_iload_n (M := kt_M428) kX13_hasValue_c18.2.2.2.2.2.2.2.1 rfl ?_
  refine kz_iald (M := kt_M428) (c := 12) (o := 0) (k := 28) (a := (E.2.1 4100)) kX13_hasValue_c19.1 ow_12_0_28 oa_12_0_28 ot_0 h (fun h => ?_)
  refine kz_sti_n (M := kt_M428) [(0, .ref (w_adr E.2.1 12 0)), (1, .int x1), (2, .int y0)] kX13_hasValue_c19.2.1 (Nat.le_of_ble_eq_true rfl) ⟨⟨rfl, rfl, .inl rfl⟩, ⟨⟨rfl, rfl, .inl rfl⟩, ⟨⟨rfl, rfl, .inr rfl⟩, trivial⟩⟩⟩ rfl ?_
  exact kz_weak [(0, .ref (w_adr E.2.1 12 0)), (1, .int x1), (2, .int y0), (3, .int (w_a w 12 0 28 (x1).toNatClampNeg))] ⟨rfl, ⟨rfl, ⟨rfl, ⟨rfl, trivial⟩⟩⟩⟩ rfl h
def zb_X13_hasValue_p267 (E : zE) (L : Nat) (Q : kx_Rs → wS → Prop) (w : wS) : Prop := Q (.inl (some (.int 0))) w
theorem zt_X13_hasValue_p267 {E : zE} {L : Nat} {Q : kx_Rs → wS → Prop} {w : wS} (hL : 24 ≤ L) (h : zb_X13_hasValue_p267 E L Q  w) : kzE E L kt_M428 267 [(0, .ref (w_adr E.2.1 12 0))] [] w Q := by
  unfold zb_X13_hasValue_p267 at h
  refine kz_ic (M := kt_M428) 0 kX13_hasValue_c15.2.2.2.2.1 rfl ?_
  exact kz_iretz (M := kt_M428) kX13_hasValue_c15.2.2.2.2.2.1 rfl (by decide) h
def zb_X13_hasValue_p197 (E : zE) (L : Nat) (Q : kx_Rs → wS → Prop) (x1 : Int32) (w : wS) : Prop := (kx_inb x1 (w_n w 12 0 29) = true ∧ zw E (L - 22) kt_M536 [.ref (w_adr E.2.1 12 0), .int (w_a w 12 0 29 (x1).toNatClampNeg), .int (w_i w 12 0 24)] w (wk1 (fun v2 w1 => wle w w1 → Q (.inl (some (.int 1))) (ws_i w1 12 0 24 v2)) (fun e w => Q (.inr e) w)))
theorem zt_X13_hasValue_p197 {E : zE} {L : Nat} {Q : kx_Rs → wS → Prop} {x1 : Int32} {w : wS} (hL : 24 ≤ L) (h : zb_X13_hasValue_p197 E L Q x1 w) : kzE E L kt_M428 197 [(0, .ref (w_adr E.2.1 12 0)), (1, .int x1)] [] w Q := by
  unfold zb_X13_hasValue_p197 at h
  refine kz_aload_n (M := kt_M428) kX13_hasValue_c10.2.2.2.2.1 rfl ?_
  refine kz_aload_n (M := kt_M428) kX13_hasValue_c10.2.2.2.2.2.1 rfl ?_
  refine kz_aload_n (M := kt_M428) kX13_hasValue_c10.2.2.2.2.2.2.1 rfl ?_
  refine kz_gfc (M := kt_M428) (x := 4101) (c := 12) (o := 0) kX13_hasValue_c10.2.2.2.2.2.2.2.1 wf_X13_196 (.inl rfl) ?_
  refine kz_iload_n (M := kt_M428) kX13_hasValue_c11.1 rfl ?_
  refine kz_iald (M := kt_M428) (c := 12) (o := 0) (k := 29) (a := (E.2.1 4101)) kX13_hasValue_c11.2.1 ow_12_0_29 oa_12_0_29 ot_0 h (fun h => ?_)
  refine kz_aload_n (M := kt_M428) kX13_hasValue_c11.2.2.1 rfl ?_
  refine kz_gfi (M := kt_M428) (c := 12) (o := 0) kX13_hasValue_c11.2.2.2.1 wf_X13_493 (.inl rfl) ?_
  refine kz_cv1 (M := kt_M428) (c := 12) (o := 0) (As := [.int (w_a w 12 0 29 (x1).toNatClampNeg), .int (w_i w 12 0 24)]) (rest := [.ref (w_adr E.2.1 12 0)]) kX13_hasValue_c11.2.2.2.2.1 wl_X13_830 wMv_536 rfl (.inl rfl) rfl (Nat.le_trans (Nat.le_of_ble_eq_true rfl) hL) (Nat.le_of_ble_eq_true rfl) (Nat.le_of_ble_eq_true rfl) h (fun v2 w1 hle h => ?_) (fun _ _ _ h => kzx_no rfl h)
  have h := h hle
  refine kz_pfi (M := kt_M428) (c := 12) (o := 0) kX13_hasValue_c11.2.2.2.2.2.1 wq_X13_493 (.inl rfl) ?_
  refine kz_ic (M := kt_M428) 1 kX13_hasValue_c11.2.2.2.2.2.2.1 rfl ?_
  exact kz_iretz (M := kt_M428) kX13_hasValue_c11.2.2.2.2.2.2.2.1 rfl (by decide) h
def zb_X13_hasValue_p195 (E : zE) (L : Nat) (Q : kx_Rs → wS → Prop) (w : wS) : Prop := Q (.inl (some (.int 0))) w
theorem zt_X13_hasValue_p195 {E : zE} {L : Nat} {Q : kx_Rs → wS → Prop} {w : wS} (hL : 24 ≤ L) (h : zb_X13_hasValue_p195 E L Q  w) : kzE E L kt_M428 195 [(0, .ref (w_adr E.2.1 12 0))] [] w Q := by
  unfold zb_X13_hasValue_p195 at h
  refine kz_ic (M := kt_M428) 0 kX13_hasValue_c10.2.2.1 rfl ?_
  exact kz_iretz (M := kt_M428) kX13_hasValue_c10.2.2.2.1 rfl (by decide) h
def zb_X13_hasValue_p122 (E : zE) (L : Nat) (Q : kx_Rs → wS → Prop) (y0 : Int32) (w : wS) : Prop := ((y0 = 0 ∨ y0 = 1) ∧ Q (.inl (some (.int y0))) w)
theorem zt_X13_hasValue_p122 {E : zE} {L : Nat} {Q : kx_Rs → wS → Prop} {y0 : Int32} {w : wS} (hL : 24 ≤ L) (h : zb_X13_hasValue_p122 E L Q y0 w) : kzE E L kt_M428 122 [(0, .ref (w_adr E.2.1 12 0))] [.int y0] w Q := by
  unfold zb_X13_hasValue_p122 at h
  exact kz_iretz (M := kt_M428) kX13_hasValue_c5.2.1 rfl h.1 h.2
def zb_X13_hasValue_p121 (E : zE) (L : Nat) (Q : kx_Rs → wS → Prop) (w : wS) : Prop := zb_X13_hasValue_p122 E L Q 0 w
theorem zt_X13_hasValue_p121 {E : zE} {L : Nat} {Q : kx_Rs → wS → Prop} {w : wS} (hL : 24 ≤ L) (h : zb_X13_hasValue_p121 E L Q  w) : kzE E L kt_M428 121 [(0, .ref (w_adr E.2.1 12 0))] [] w Q := by
  unfold zb_X13_hasValue_p121 at h
  refine kz_ic (M := kt_M428) 0 kX13_hasValue_c5.1 rfl ?_
  exact kz_weak [(0, .ref (w_adr E.2.1 12 0))] ⟨rfl, trivial⟩ rfl (zt_X13_hasValue_p122 hL  h)
def zb_X13_hasValue_p117 (E : zE) (L : Nat) (Q : kx_Rs → wS → Prop) (w : wS) : Prop := zb_X13_hasValue_p122 E L Q 1 w
theorem zt_X13_hasValue_p117 {E : zE} {L : Nat} {Q : kx_Rs → wS → Prop} {w : wS} (hL : 24 ≤ L) (h : zb_X13_hasValue_p117 E L Q  w) : kzE E L kt_M428 117 [(0, .ref (w_adr E.2.1 12 0))] [] w Q := by
  unfold zb_X13_hasValue_p117 at h
  refine kz_ic (M := kt_M428) 1 kX13_hasValue_c4.2.2.2.2.2.2.1 rfl ?_
  refine kz_goto (M := kt_M428) kX13_hasValue_c4.2.2.2.2.2.2.2.1 (t := 122) rfl ?_
  exact kz_weak [(0, .ref (w_adr E.2.1 12 0))] ⟨rfl, trivial⟩ rfl (zt_X13_hasValue_p122 hL  h)
def zb_X13_hasValue_p92 (E : zE) (L : Nat) (Q : kx_Rs → wS → Prop) (x1 : Int32) (w : wS) : Prop := (kx_inb x1 (w_n w 12 0 29) = true ∧ (if ¬ w_a w 12 0 29 (x1).toNatClampNeg = 2 then zb_X13_hasValue_p117 E L Q w else (if w_i w 12 0 24 = 0 then zb_X13_hasValue_p117 E L Q w else (if ¬ w_i w 12 0 24 = 1 then zb_X13_hasValue_p121 E L Q w else zb_X13_hasValue_p117 E L Q w))))
theorem zt_X13_hasValue_p92 {E : zE} {L : Nat} {Q : kx_Rs → wS → Prop} {x1 : Int32} {w : wS} (hL : 24 ≤ L) (h : zb_X13_hasValue_p92 E L Q x1 w) : kzE E L kt_M428 92 [(0, .ref (w_adr E.2.1 12 0)), (1, .int x1)] [] w Q := by
  unfold zb_X13_hasValue_p92 at h
  refine kz_aload_n (M := kt_M428) kX13_hasValue_c3.2.1 rfl ?_
  refine kz_gfc (M := kt_M428) (x := 4101) (c := 12) (o := 0) kX13_hasValue_c3.2.2.1 wf_X13_196 (.inl rfl) ?_
  refine kz_iload_n (M := kt_M428) kX13_hasValue_c3.2.2.2.1 rfl ?_
  refine kz_iald (M := kt_M428) (c := 12) (o := 0) (k := 29) (a := (E.2.1 4101)) kX13_hasValue_c3.2.2.2.2.1 ow_12_0_29 oa_12_0_29 ot_0 h (fun h => ?_)
  refine kz_ic (M := kt_M428) 2 kX13_hasValue_c3.2.2.2.2.2.1 rfl ?_
  refine kz_icmp_ne (M := kt_M428) kX13_hasValue_c3.2.2.2.2.2.2.1 (t := 117) rfl h (fun h => ?_) (fun h => ?_)
  · skip
    exact kz_weak [(0, .ref (w_adr E.2.1 12 0))] ⟨rfl, trivial⟩ rfl (zt_X13_hasValue_p117 hL  h)
  · skip
    refine kz_aload_n (M := kt_M428) kX13_hasValue_c3.2.2.2.2.2.2.2.1 rfl ?_
    refine kz_gfi (M := kt_M428) (c := 12) (o := 0) kX13_hasValue_c4.1 wf_X13_493 (.inl rfl) ?_
    refine kz_if_eq (M := kt_M428) kX13_hasValue_c4.2.1 (t := 117) rfl h (fun h => ?_) (fun h => ?_)
    · skip
      exact kz_weak [(0, .ref (w_adr E.2.1 12 0))] ⟨rfl, trivial⟩ rfl (zt_X13_hasValue_p117 hL  h)
    · skip
      refine kz_aload_n (M := kt_M428) kX13_hasValue_c4.2.2.1 rfl ?_
      refine kz_gfi (M := kt_M428) (c := 12) (o := 0) kX13_hasValue_c4.2.2.2.1 wf_X13_493 (.inl rfl) ?_
      refine kz_ic (M := kt_M428) 1 kX13_hasValue_c4.2.2.2.2.1 rfl ?_
      refine kz_icmp_ne (M := kt_M428) kX13_hasValue_c4.2.2.2.2.2.1 (t := 121) rfl h (fun h => ?_) (fun h => ?_)
      · skip
        exact kz_weak [(0, .ref (w_adr E.2.1 12 0))] ⟨rfl, trivial⟩ rfl (zt_X13_hasValue_p121 hL  h)
      · skip
        exact kz_weak [(0, .ref (w_adr E.2.1 12 0))] ⟨rfl, trivial⟩ rfl (zt_X13_hasValue_p117 hL  h)
def zb_X13_hasValue_p0 (E : zE) (L : Nat) (Q : kx_Rs → wS → Prop) (x1 : Int32) (w : wS) : Prop := (kx_inb x1 (w_n w 12 0 26) = true ∧ (if w_a w 12 0 26 (x1).toNatClampNeg = 57 then (kx_inb x1 (w_n w 12 0 28) = true ∧ zw E (L - 23) kt_M428 [.ref (w_adr E.2.1 12 0), .int (w_a w 12 0 28 (x1).toNatClampNeg)] w (wk1 (fun v2 w1 => wle w w1 → (if v2 = 0 then zb_X13_hasValue_p121 E L Q w1 else (kx_inb x1 (w_n w1 12 0 29) = true ∧ (if ¬ w_a w1 12 0 29 (x1).toNatClampNeg = 1 then zb_X13_hasValue_p92 E L Q x1 w1 else (if w_i w1 12 0 24 < 0 then zb_X13_hasValue_p121 E L Q w1 else (if 255 < w_i w1 12 0 24 then zb_X13_hasValue_p121 E L Q w1 else zb_X13_hasValue_p92 E L Q x1 w1)))))) (fun e w => Q (.inr e) w))) else (if w_a w 12 0 26 (x1).toNatClampNeg = 58 then (kx_inb x1 (w_n w 12 0 28) = true ∧ zw E (L - 23) kt_M428 [.ref (w_adr E.2.1 12 0), .int (w_a w 12 0 28 (x1).toNatClampNeg)] w (wk1 (fun v4 w3 => wle w w3 → ((v4 = 0 ∨ v4 = 1) ∧ Q (.inl (some (.int v4))) w3)) (fun e w => Q (.inr e) w))) else (if w_a w 12 0 26 (x1).toNatClampNeg = 62 then (kx_inb x1 (w_n w 12 0 29) = true ∧ (if ¬ w_a w 12 0 29 (x1).toNatClampNeg = 27 then (kx_inb x1 (w_n w 12 0 28) = true ∧ zw E (L - 23) kt_M428 [.ref (w_adr E.2.1 12 0), .int (w_a w 12 0 28 (x1).toNatClampNeg)] w (wk1 (fun v6 w5 => wle w w5 → (if v6 = 0 then zb_X13_hasValue_p195 E L Q w5 else (kx_inb x1 (w_n w5 12 0 29) = true ∧ (if ¬ w_a w5 12 0 29 (x1).toNatClampNeg = 58 then zb_X13_hasValue_p197 E L Q x1 w5 else (if ¬ w_i w5 12 0 24 = (-2147483648) then zb_X13_hasValue_p197 E L Q x1 w5 else zb_X13_hasValue_p195 E L Q w5))))) (fun e w => Q (.inr e) w))) else (kx_inb x1 (w_n w 12 0 28) = true ∧ zw E (L - 23) kt_M465 [.ref (w_adr E.2.1 12 0), .int (w_a w 12 0 28 (x1).toNatClampNeg)] w (wk1 (fun v8 w7 => wle w w7 → Q (.inl (some (.int 1))) (ws_i w7 12 0 24 v8)) (fun e w => Q (.inr e) w))))) else (if w_a w 12 0 26 (x1).toNatClampNeg = 63 then (kx_inb x1 (w_n w 12 0 28) = true ∧ zw E (L - 23) kt_M428 [.ref (w_adr E.2.1 12 0), .int (w_a w 12 0 28 (x1).toNatClampNeg)] w (wk1 (fun v10 w9 => wle w w9 → (if ¬ v10 = 0 then (kx_inb x1 (w_n w9 12 0 30) = true ∧ zw E (L - 23) kt_M428 [.ref (w_adr E.2.1 12 0), .int (w_a w9 12 0 30 (x1).toNatClampNeg)] w9 (wk1 (fun v12 w11 => wle w9 w11 → (if v12 = 0 then zb_X13_hasValue_p267 E L Q w11 else (kx_inb x1 (w_n w11 12 0 29) = true ∧ zw E (L - 22) kt_M450 [.int (w_a w11 12 0 29 (x1).toNatClampNeg), .int (w_i w9 12 0 24), .int (w_i w11 12 0 24)] w11 (wk1 (fun v14 w13 => wle w11 w13 → (if ¬ v14 = 0 then (kx_inb x1 (w_n w13 12 0 29) = true ∧ zw E (L - 23) kt_M605 [.ref (w_adr E.2.1 12 0), .int (w_a w13 12 0 29 (x1).toNatClampNeg), .int (w_i w9 12 0 24), .int (w_i w13 12 0 24)] w13 (wk1 (fun v16 w15 => wle w13 w15 → Q (.inl (some (.int 1))) (ws_i w15 12 0 24 v16)) (fun e w => Q (.inr e) w))) else zb_X13_hasValue_p267 E L Q w13)) (fun e w => Q (.inr e) w))))) (fun e w => Q (.inr e) w))) else Q (.inl (some (.int 0))) w9)) (fun e w => Q (.inr e) w))) else (if w_a w 12 0 26 (x1).toNatClampNeg = 64 then (kx_inb x1 (w_n w 12 0 29) = true ∧ (if ¬ w_a w 12 0 29 (x1).toNatClampNeg = 2 then zb_X13_hasValue_p305 E L Q x1 0 w else zb_X13_hasValue_p305 E L Q x1 1 w)) else zw E (L - 24) kt_M377 [.ref (w_adr E.2.1 12 0), .int x1] w (wk1 (fun v18 w17 => wle w w17 → Q (.inl (some (.int 1))) (ws_i w17 12 0 24 v18)) (fun e w => Q (.inr e) w))))))))
theorem zt_X13_hasValue_p0 {E : zE} {L : Nat} {Q : kx_Rs → wS → Prop} {x1 : Int32} {w : wS} (hL : 24 ≤ L) (h : zb_X13_hasValue_p0 E L Q x1 w) : kzE E L kt_M428 0 [(0, .ref (w_adr E.2.1 12 0)), (1, .int x1)] [] w Q := by
  unfold zb_X13_hasValue_p0 at h
  refine kz_aload_n (M := kt_M428) kX13_hasValue_c0.1 rfl ?_
  refine kz_gfc (M := kt_M428) (x := 4098) (c := 12) (o := 0) kX13_hasValue_c0.2.1 wf_X13_187 (.inl rfl) ?_
  refine kz_iload_n (M := kt_M428) kX13_hasValue_c0.2.2.1 rfl ?_
  refine kz_iald (M := kt_M428) (c := 12) (o := 0) (k := 26) (a := (E.2.1 4098)) kX13_hasValue_c0.2.2.2.1 ow_12_0_26 oa_12_0_26 ot_0 h (fun h => ?_)
  refine kz_tsw (M := kt_M428) [(57, 52), (58, 123), (62, 134), (63, 217), (64, 290)] [_, _, _, _, _] 400 dX13_hasValue_p6 (by decide +kernel) h ⟨fun h => ?_, fun h => ?_, fun h => ?_, fun h => ?_, fun h => ?_, trivial⟩ (fun h => ?_)
  · skip
    refine kz_aload_n (M := kt_M428) kX13_hasValue_c0.2.2.2.2.2.1 rfl ?_
    refine kz_aload_n (M := kt_M428) kX13_hasValue_c0.2.2.2.2.2.2.1 rfl ?_
    refine kz_gfc (M := kt_M428) (x := 4100) (c := 12) (o := 0) kX13_hasValue_c0.2.2.2.2.2.2.2.1 wf_X13_193 (.inl rfl) ?_
    refine kz_iload_n (M := kt_M428) kX13_hasValue_c1.1 rfl ?_
    refine kz_iald (M := kt_M428) (c := 12) (o := 0) (k := 28) (a := (E.2.1 4100)) kX13_hasValue_c1.2.1 ow_12_0_28 oa_12_0_28 ot_0 h (fun h => ?_)
    refine kz_cv1 (M := kt_M428) (c := 12) (o := 0) (As := [.int (w_a w 12 0 28 (x1).toNatClampNeg)]) (rest := []) kX13_hasValue_c1.2.2.1 wl_X13_846 wMv_428 rfl (.inl rfl) rfl (Nat.le_trans (Nat.le_of_ble_eq_true rfl) hL) (Nat.le_of_ble_eq_true rfl) (Nat.le_of_ble_eq_true rfl) h (fun v2 w1 hle h => ?_) (fun _ _ _ h => kzx_no rfl h)
    have h := h hle
    refine kz_if_eq (M := kt_M428) kX13_hasValue_c1.2.2.2.1 (t := 121) rfl h (fun h => ?_) (fun h => ?_)
    · skip
      exact kz_weak [(0, .ref (w_adr E.2.1 12 0))] ⟨rfl, trivial⟩ rfl (zt_X13_hasValue_p121 hL  h)
    · skip
      refine kz_aload_n (M := kt_M428) kX13_hasValue_c1.2.2.2.2.1 rfl ?_
      refine kz_gfc (M := kt_M428) (x := 4101) (c := 12) (o := 0) kX13_hasValue_c1.2.2.2.2.2.1 wf_X13_196 (.inl rfl) ?_
      refine kz_iload_n (M := kt_M428) kX13_hasValue_c1.2.2.2.2.2.2.1 rfl ?_
      refine kz_iald (M := kt_M428) (c := 12) (o := 0) (k := 29) (a := (E.2.1 4101)) kX13_hasValue_c1.2.2.2.2.2.2.2.1 ow_12_0_29 oa_12_0_29 ot_0 h (fun h => ?_)
      refine kz_ic (M := kt_M428) 1 kX13_hasValue_c2.1 rfl ?_
      refine kz_icmp_ne (M := kt_M428) kX13_hasValue_c2.2.1 (t := 92) rfl h (fun h => ?_) (fun h => ?_)
      · skip
        exact kz_weak [(0, .ref (w_adr E.2.1 12 0)), (1, .int x1)] ⟨rfl, ⟨rfl, trivial⟩⟩ rfl (zt_X13_hasValue_p92 hL  h)
      · skip
        refine kz_aload_n (M := kt_M428) kX13_hasValue_c2.2.2.1 rfl ?_
        refine kz_gfi (M := kt_M428) (c := 12) (o := 0) kX13_hasValue_c2.2.2.2.1 wf_X13_493 (.inl rfl) ?_
        refine kz_if_lt (M := kt_M428) kX13_hasValue_c2.2.2.2.2.1 (t := 121) rfl h (fun h => ?_) (fun h => ?_)
        · skip
          exact kz_weak [(0, .ref (w_adr E.2.1 12 0))] ⟨rfl, trivial⟩ rfl (zt_X13_hasValue_p121 hL  h)
        · skip
          refine kz_aload_n (M := kt_M428) kX13_hasValue_c2.2.2.2.2.2.1 rfl ?_
          refine kz_gfi (M := kt_M428) (c := 12) (o := 0) kX13_hasValue_c2.2.2.2.2.2.2.1 wf_X13_493 (.inl rfl) ?_
          refine kz_si (M := kt_M428) 255 kX13_hasValue_c2.2.2.2.2.2.2.2.1 rfl ?_
          refine kz_icmp_gt (M := kt_M428) kX13_hasValue_c3.1 (t := 121) rfl h (fun h => ?_) (fun h => ?_)
          · skip
            exact kz_weak [(0, .ref (w_adr E.2.1 12 0))] ⟨rfl, trivial⟩ rfl (zt_X13_hasValue_p121 hL  h)
          · skip
            exact kz_weak [(0, .ref (w_adr E.2.1 12 0)), (1, .int x1)] ⟨rfl, ⟨rfl, trivial⟩⟩ rfl (zt_X13_hasValue_p92 hL  h)
  · skip
    refine kz_aload_n (M := kt_M428) kX13_hasValue_c5.2.2.1 rfl ?_
    refine kz_aload_n (M := kt_M428) kX13_hasValue_c5.2.2.2.1 rfl ?_
    refine kz_gfc (M := kt_M428) (x := 4100) (c := 12) (o := 0) kX13_hasValue_c5.2.2.2.2.1 wf_X13_193 (.inl rfl) ?_
    refine kz_iload_n (M := kt_M428) kX13_hasValue_c5.2.2.2.2.2.1 rfl ?_
    refine kz_iald (M := kt_M428) (c := 12) (o := 0) (k := 28) (a := (E.2.1 4100)) kX13_hasValue_c5.2.2.2.2.2.2.1 ow_12_0_28 oa_12_0_28 ot_0 h (fun h => ?_)
    refine kz_cv1 (M := kt_M428) (c := 12) (o := 0) (As := [.int (w_a w 12 0 28 (x1).toNatClampNeg)]) (rest := []) kX13_hasValue_c5.2.2.2.2.2.2.2.1 wl_X13_846 wMv_428 rfl (.inl rfl) rfl (Nat.le_trans (Nat.le_of_ble_eq_true rfl) hL) (Nat.le_of_ble_eq_true rfl) (Nat.le_of_ble_eq_true rfl) h (fun v4 w3 hle h => ?_) (fun _ _ _ h => kzx_no rfl h)
    have h := h hle
    exact kz_iretz (M := kt_M428) kX13_hasValue_c6.1 rfl h.1 h.2
  · skip
    refine kz_aload_n (M := kt_M428) kX13_hasValue_c6.2.1 rfl ?_
    refine kz_gfc (M := kt_M428) (x := 4101) (c := 12) (o := 0) kX13_hasValue_c6.2.2.1 wf_X13_196 (.inl rfl) ?_
    refine kz_iload_n (M := kt_M428) kX13_hasValue_c6.2.2.2.1 rfl ?_
    refine kz_iald (M := kt_M428) (c := 12) (o := 0) (k := 29) (a := (E.2.1 4101)) kX13_hasValue_c6.2.2.2.2.1 ow_12_0_29 oa_12_0_29 ot_0 h (fun h => ?_)
    refine kz_bi (M := kt_M428) 27 kX13_hasValue_c6.2.2.2.2.2.1 rfl ?_
    refine kz_icmp_ne (M := kt_M428) kX13_hasValue_c6.2.2.2.2.2.2.1 (t := 161) rfl h (fun h => ?_) (fun h => ?_)
    · skip
      refine kz_aload_n (M := kt_M428) kX13_hasValue_c8.2.1 rfl ?_
      refine kz_aload_n (M := kt_M428) kX13_hasValue_c8.2.2.1 rfl ?_
      refine kz_gfc (M := kt_M428) (x := 4100) (c := 12) (o := 0) kX13_hasValue_c8.2.2.2.1 wf_X13_193 (.inl rfl) ?_
      refine kz_iload_n (M := kt_M428) kX13_hasValue_c8.2.2.2.2.1 rfl ?_
      refine kz_iald (M := kt_M428) (c := 12) (o := 0) (k := 28) (a := (E.2.1 4100)) kX13_hasValue_c8.2.2.2.2.2.1 ow_12_0_28 oa_12_0_28 ot_0 h (fun h => ?_)
      refine kz_cv1 (M := kt_M428) (c := 12) (o := 0) (As := [.int (w_a w 12 0 28 (x1).toNatClampNeg)]) (rest := []) kX13_hasValue_c8.2.2.2.2.2.2.1 wl_X13_846 wMv_428 rfl (.inl rfl) rfl (Nat.le_trans (Nat.le_of_ble_eq_true rfl) hL) (Nat.le_of_ble_eq_true rfl) (Nat.le_of_ble_eq_true rfl) h (fun v6 w5 hle h => ?_) (fun _ _ _ h => kzx_no rfl h)
      have h := h hle
      refine kz_if_eq (M := kt_M428) kX13_hasValue_c8.2.2.2.2.2.2.2.1 (t := 195) rfl h (fun h => ?_) (fun h => ?_)
      · skip
        exact kz_weak [(0, .ref (w_adr E.2.1 12 0))] ⟨rfl, trivial⟩ rfl (zt_X13_hasValue_p195 hL  h)
      · skip
        refine kz_aload_n (M := kt_M428) kX13_hasValue_c9.1 rfl ?_
        refine kz_gfc (M := kt_M428) (x := 4101) (c := 12) (o := 0) kX13_hasValue_c9.2.1 wf_X13_196 (.inl rfl) ?_
        refine kz_iload_n (M := kt_M428) kX13_hasValue_c9.2.2.1 rfl ?_
        refine kz_iald (M := kt_M428) (c := 12) (o := 0) (k := 29) (a := (E.2.1 4101)) kX13_hasValue_c9.2.2.2.1 ow_12_0_29 oa_12_0_29 ot_0 h (fun h => ?_)
        refine kz_bi (M := kt_M428) 58 kX13_hasValue_c9.2.2.2.2.1 rfl ?_
        refine kz_icmp_ne (M := kt_M428) kX13_hasValue_c9.2.2.2.2.2.1 (t := 197) rfl h (fun h => ?_) (fun h => ?_)
        · skip
          exact kz_weak [(0, .ref (w_adr E.2.1 12 0)), (1, .int x1)] ⟨rfl, ⟨rfl, trivial⟩⟩ rfl (zt_X13_hasValue_p197 hL  h)
        · skip
          refine kz_aload_n (M := kt_M428) kX13_hasValue_c9.2.2.2.2.2.2.1 rfl ?_
          refine kz_gfi (M := kt_M428) (c := 12) (o := 0) kX13_hasValue_c9.2.2.2.2.2.2.2.1 wf_X13_493 (.inl rfl) ?_
          refine kz_ldcw (M := kt_M428) (x := (-2147483648)) kX13_hasValue_c10.1 (zc_X13_823) ?_
          refine kz_icmp_ne (M := kt_M428) kX13_hasValue_c10.2.1 (t := 197) rfl h (fun h => ?_) (fun h => ?_)
          · skip
            exact kz_weak [(0, .ref (w_adr E.2.1 12 0)), (1, .int x1)] ⟨rfl, ⟨rfl, trivial⟩⟩ rfl (zt_X13_hasValue_p197 hL  h)
          · skip
            exact kz_weak [(0, .ref (w_adr E.2.1 12 0))] ⟨rfl, trivial⟩ rfl (zt_X13_hasValue_p195 hL  h)
    · skip
      refine kz_aload_n (M := kt_M428) kX13_hasValue_c6.2.2.2.2.2.2.2.1 rfl ?_
      refine kz_aload_n (M := kt_M428) kX13_hasValue_c7.1 rfl ?_
      refine kz_aload_n (M := kt_M428) kX13_hasValue_c7.2.1 rfl ?_
      refine kz_gfc (M := kt_M428) (x := 4100) (c := 12) (o := 0) kX13_hasValue_c7.2.2.1 wf_X13_193 (.inl rfl) ?_
      refine kz_iload_n (M := kt_M428) kX13_hasValue_c7.2.2.2.1 rfl ?_
      refine kz_iald (M := kt_M428) (c := 12) (o := 0) (k := 28) (a := (E.2.1 4100)) kX13_hasValue_c7.2.2.2.2.1 ow_12_0_28 oa_12_0_28 ot_0 h (fun h => ?_)
      refine kz_cv1 (M := kt_M428) (c := 12) (o := 0) (As := [.int (w_a w 12 0 28 (x1).toNatClampNeg)]) (rest := [.ref (w_adr E.2.1 12 0)]) kX13_hasValue_c7.2.2.2.2.2.1 wl_X13_819 wMv_465 rfl (.inl rfl) rfl (Nat.le_trans (Nat.le_of_ble_eq_true rfl) hL) (Nat.le_of_ble_eq_true rfl) (Nat.le_of_ble_eq_true rfl) h (fun v8 w7 hle h => ?_) (fun _ _ _ h => kzx_no rfl h)
      have h := h hle
      refine kz_pfi (M := kt_M428) (c := 12) (o := 0) kX13_hasValue_c7.2.2.2.2.2.2.1 wq_X13_493 (.inl rfl) ?_
      refine kz_ic (M := kt_M428) 1 kX13_hasValue_c7.2.2.2.2.2.2.2.1 rfl ?_
      exact kz_iretz (M := kt_M428) kX13_hasValue_c8.1 rfl (by decide) h
  · skip
    refine kz_aload_n (M := kt_M428) kX13_hasValue_c12.1 rfl ?_
    refine kz_aload_n (M := kt_M428) kX13_hasValue_c12.2.1 rfl ?_
    refine kz_gfc (M := kt_M428) (x := 4100) (c := 12) (o := 0) kX13_hasValue_c12.2.2.1 wf_X13_193 (.inl rfl) ?_
    refine kz_iload_n (M := kt_M428) kX13_hasValue_c12.2.2.2.1 rfl ?_
    refine kz_iald (M := kt_M428) (c := 12) (o := 0) (k := 28) (a := (E.2.1 4100)) kX13_hasValue_c12.2.2.2.2.1 ow_12_0_28 oa_12_0_28 ot_0 h (fun h => ?_)
    refine kz_cv1 (M := kt_M428) (c := 12) (o := 0) (As := [.int (w_a w 12 0 28 (x1).toNatClampNeg)]) (rest := []) kX13_hasValue_c12.2.2.2.2.2.1 wl_X13_846 wMv_428 rfl (.inl rfl) rfl (Nat.le_trans (Nat.le_of_ble_eq_true rfl) hL) (Nat.le_of_ble_eq_true rfl) (Nat.le_of_ble_eq_true rfl) h (fun v10 w9 hle h => ?_) (fun _ _ _ h => kzx_no rfl h)
    have h := h hle
    refine kz_if_ne (M := kt_M428) kX13_hasValue_c12.2.2.2.2.2.2.1 (t := 232) rfl h (fun h => ?_) (fun h => ?_)
    · skip
      refine kz_aload_n (M := kt_M428) kX13_hasValue_c13.2.1 rfl ?_
      refine kz_gfi (M := kt_M428) (c := 12) (o := 0) kX13_hasValue_c13.2.2.1 wf_X13_493 (.inl rfl) ?_
      refine kz_sti_n (M := kt_M428) [(0, .ref (w_adr E.2.1 12 0)), (1, .int x1)] kX13_hasValue_c13.2.2.2.1 (Nat.le_of_ble_eq_true rfl) ⟨⟨rfl, rfl, .inl rfl⟩, ⟨⟨rfl, rfl, .inr rfl⟩, trivial⟩⟩ rfl ?_
      refine kz_aload_n (M := kt_M428) kX13_hasValue_c13.2.2.2.2.1 rfl ?_
      refine kz_aload_n (M := kt_M428) kX13_hasValue_c13.2.2.2.2.2.1 rfl ?_
      refine kz_gfc (M := kt_M428) (x := 4102) (c := 12) (o := 0) kX13_hasValue_c13.2.2.2.2.2.2.1 wf_X13_199 (.inl rfl) ?_
      refine kz_iload_n (M := kt_M428) kX13_hasValue_c13.2.2.2.2.2.2.2.1 rfl ?_
      refine kz_iald (M := kt_M428) (c := 12) (o := 0) (k := 30) (a := (E.2.1 4102)) kX13_hasValue_c14.1 ow_12_0_30 oa_12_0_30 ot_0 h (fun h => ?_)
      refine kz_cv1 (M := kt_M428) (c := 12) (o := 0) (As := [.int (w_a w9 12 0 30 (x1).toNatClampNeg)]) (rest := []) kX13_hasValue_c14.2.1 wl_X13_846 wMv_428 rfl (.inl rfl) rfl (Nat.le_trans (Nat.le_of_ble_eq_true rfl) hL) (Nat.le_of_ble_eq_true rfl) (Nat.le_of_ble_eq_true rfl) h (fun v12 w11 hle h => ?_) (fun _ _ _ h => kzx_no rfl h)
      have h := h hle
      refine kz_if_eq (M := kt_M428) kX13_hasValue_c14.2.2.1 (t := 267) rfl h (fun h => ?_) (fun h => ?_)
      · skip
        exact kz_weak [(0, .ref (w_adr E.2.1 12 0))] ⟨rfl, trivial⟩ rfl (zt_X13_hasValue_p267 hL  h)
      · skip
        refine kz_aload_n (M := kt_M428) kX13_hasValue_c14.2.2.2.1 rfl ?_
        refine kz_gfc (M := kt_M428) (x := 4101) (c := 12) (o := 0) kX13_hasValue_c14.2.2.2.2.1 wf_X13_196 (.inl rfl) ?_
        refine kz_iload_n (M := kt_M428) kX13_hasValue_c14.2.2.2.2.2.1 rfl ?_
        refine kz_iald (M := kt_M428) (c := 12) (o := 0) (k := 29) (a := (E.2.1 4101)) kX13_hasValue_c14.2.2.2.2.2.2.1 ow_12_0_29 oa_12_0_29 ot_0 h (fun h => ?_)
        refine kz_iload_n (M := kt_M428) kX13_hasValue_c14.2.2.2.2.2.2.2.1 rfl ?_
        refine kz_aload_n (M := kt_M428) kX13_hasValue_c15.1 rfl ?_
        refine kz_gfi (M := kt_M428) (c := 12) (o := 0) kX13_hasValue_c15.2.1 wf_X13_493 (.inl rfl) ?_
        refine kz_cs1 (M := kt_M428) (As := [.int (w_a w11 12 0 29 (x1).toNatClampNeg), .int (w_i w9 12 0 24), .int (w_i w11 12 0 24)]) (rest := []) kX13_hasValue_c15.2.2.1 wl_X13_849 wMs_450 rfl (Nat.le_trans (Nat.le_of_ble_eq_true rfl) hL) (Nat.le_of_ble_eq_true rfl) (Nat.le_of_ble_eq_true rfl) h (fun v14 w13 hle h => ?_) (fun _ _ _ h => kzx_no rfl h)
        have h := h hle
        refine kz_if_ne (M := kt_M428) kX13_hasValue_c15.2.2.2.1 (t := 269) rfl h (fun h => ?_) (fun h => ?_)
        · skip
          refine kz_aload_n (M := kt_M428) kX13_hasValue_c15.2.2.2.2.2.2.1 rfl ?_
          refine kz_aload_n (M := kt_M428) kX13_hasValue_c15.2.2.2.2.2.2.2.1 rfl ?_
          refine kz_aload_n (M := kt_M428) kX13_hasValue_c16.1 rfl ?_
          refine kz_gfc (M := kt_M428) (x := 4101) (c := 12) (o := 0) kX13_hasValue_c16.2.1 wf_X13_196 (.inl rfl) ?_
          refine kz_iload_n (M := kt_M428) kX13_hasValue_c16.2.2.1 rfl ?_
          refine kz_iald (M := kt_M428) (c := 12) (o := 0) (k := 29) (a := (E.2.1 4101)) kX13_hasValue_c16.2.2.2.1 ow_12_0_29 oa_12_0_29 ot_0 h (fun h => ?_)
          refine kz_iload_n (M := kt_M428) kX13_hasValue_c16.2.2.2.2.1 rfl ?_
          refine kz_aload_n (M := kt_M428) kX13_hasValue_c16.2.2.2.2.2.1 rfl ?_
          refine kz_gfi (M := kt_M428) (c := 12) (o := 0) kX13_hasValue_c16.2.2.2.2.2.2.1 wf_X13_493 (.inl rfl) ?_
          refine kz_cv1 (M := kt_M428) (c := 12) (o := 0) (As := [.int (w_a w13 12 0 29 (x1).toNatClampNeg), .int (w_i w9 12 0 24), .int (w_i w13 12 0 24)]) (rest := [.ref (w_adr E.2.1 12 0)]) kX13_hasValue_c16.2.2.2.2.2.2.2.1 wl_X13_833 wMv_605 rfl (.inl rfl) rfl (Nat.le_trans (Nat.le_of_ble_eq_true rfl) hL) (Nat.le_of_ble_eq_true rfl) (Nat.le_of_ble_eq_true rfl) h (fun v16 w15 hle h => ?_) (fun _ _ _ h => kzx_no rfl h)
          have h := h hle
          refine kz_pfi (M := kt_M428) (c := 12) (o := 0) kX13_hasValue_c17.1 wq_X13_493 (.inl rfl) ?_
          refine kz_ic (M := kt_M428) 1 kX13_hasValue_c17.2.1 rfl ?_
          exact kz_iretz (M := kt_M428) kX13_hasValue_c17.2.2.1 rfl (by decide) h
        · skip
          exact kz_weak [(0, .ref (w_adr E.2.1 12 0))] ⟨rfl, trivial⟩ rfl (zt_X13_hasValue_p267 hL  h)
    · skip
      refine kz_ic (M := kt_M428) 0 kX13_hasValue_c12.2.2.2.2.2.2.2.1 rfl ?_
      exact kz_iretz (M := kt_M428) kX13_hasValue_c13.1 rfl (by decide) h
  · skip
    refine kz_aload_n (M := kt_M428) kX13_hasValue_c17.2.2.2.1 rfl ?_
    refine kz_gfc (M := kt_M428) (x := 4101) (c := 12) (o := 0) kX13_hasValue_c17.2.2.2.2.1 wf_X13_196 (.inl rfl) ?_
    refine kz_iload_n (M := kt_M428) kX13_hasValue_c17.2.2.2.2.2.1 rfl ?_
    refine kz_iald (M := kt_M428) (c := 12) (o := 0) (k := 29) (a := (E.2.1 4101)) kX13_hasValue_c17.2.2.2.2.2.2.1 ow_12_0_29 oa_12_0_29 ot_0 h (fun h => ?_)
    refine kz_ic (M := kt_M428) 2 kX13_hasValue_c17.2.2.2.2.2.2.2.1 rfl ?_
    refine kz_icmp_ne (M := kt_M428) kX13_hasValue_c18.1 (t := 304) rfl h (fun h => ?_) (fun h => ?_)
    · skip
      refine kz_ic (M := kt_M428) 0 kX13_hasValue_c18.2.2.2.1 rfl ?_
      exact kz_weak [(0, .ref (w_adr E.2.1 12 0)), (1, .int x1)] ⟨rfl, ⟨rfl, trivial⟩⟩ rfl (zt_X13_hasValue_p305 hL  h)
    · skip
      refine kz_ic (M := kt_M428) 1 kX13_hasValue_c18.2.1 rfl ?_
      refine kz_goto (M := kt_M428) kX13_hasValue_c18.2.2.1 (t := 305) rfl ?_
      exact kz_weak [(0, .ref (w_adr E.2.1 12 0)), (1, .int x1)] ⟨rfl, ⟨rfl, trivial⟩⟩ rfl (zt_X13_hasValue_p305 hL  h)
  · skip
    refine kz_aload_n (M := kt_M428) kX13_hasValue_c25.2.2.2.1 rfl ?_
    refine kz_aload_n (M := kt_M428) kX13_hasValue_c25.2.2.2.2.1 rfl ?_
    refine kz_iload_n (M := kt_M428) kX13_hasValue_c25.2.2.2.2.2.1 rfl ?_
    refine kz_cv1 (M := kt_M428) (c := 12) (o := 0) (As := [.int x1]) (rest := [.ref (w_adr E.2.1 12 0)]) kX13_hasValue_c25.2.2.2.2.2.2.1 wl_X13_824 wMv_377 rfl (.inl rfl) rfl (Nat.le_trans (Nat.le_of_ble_eq_true rfl) hL) (Nat.le_of_ble_eq_true rfl) (Nat.le_of_ble_eq_true rfl) h (fun v18 w17 hle h => ?_) (fun _ _ _ h => kzx_no rfl h)
    have h := h hle
    refine kz_pfi (M := kt_M428) (c := 12) (o := 0) kX13_hasValue_c25.2.2.2.2.2.2.2.1 wq_X13_493 (.inl rfl) ?_
    refine kz_ic (M := kt_M428) 1 kX13_hasValue_c26.1 rfl ?_
    exact kz_iretz (M := kt_M428) kX13_hasValue_c26.2.1 rfl (by decide) h
def zb_X13_single_p0 (E : zE) (L : Nat) (Q : kx_Rs → wS → Prop) (x1 : Int32) (x2 : Int32) (w : wS) : Prop := (if x1 = 14 then Q (.inl (some (.int (-x2)))) w else (if x1 = 58 then zw E (L - 22) kt_M406 [.ref (w_adr E.2.1 12 0), .long ((-((x2).toInt64)))] w (wk1 (fun v2 w1 => wle w w1 → Q (.inl (some (.int v2))) w1) (fun e w => Q (.inr e) w)) else (if x1 = 67 then Q (.inl (some (.int (x2 ^^^ (-1))))) w else Q (.inl (some (.int (1 - x2)))) w)))
theorem zt_X13_single_p0 {E : zE} {L : Nat} {Q : kx_Rs → wS → Prop} {x1 : Int32} {x2 : Int32} {w : wS} (hL : 22 ≤ L) (h : zb_X13_single_p0 E L Q x1 x2 w) : kzE E L kt_M536 0 [(0, .ref (w_adr E.2.1 12 0)), (1, .int x1), (2, .int x2)] [] w Q := by
  unfold zb_X13_single_p0 at h
  refine kz_iload_n (M := kt_M536) kX13_single_c0.1 rfl ?_
  refine kz_lsw (M := kt_M536) [(14, 44), (58, 36), (67, 47)] [_, _, _] 51 dX13_single_p1 (by decide +kernel) (by decide +kernel) h ⟨fun h => ?_, fun h => ?_, fun h => ?_, trivial⟩ (fun h => ?_)
  · skip
    refine kz_iload_n (M := kt_M536) kX13_single_c1.1 rfl ?_
    refine kz_ineg (M := kt_M536) kX13_single_c1.2.1 ?_
    exact kz_iret (M := kt_M536) kX13_single_c1.2.2.1 rfl rfl h
  · skip
    refine kz_aload_n (M := kt_M536) kX13_single_c0.2.2.1 rfl ?_
    refine kz_iload_n (M := kt_M536) kX13_single_c0.2.2.2.1 rfl ?_
    refine kz_i2l (M := kt_M536) kX13_single_c0.2.2.2.2.1 ?_
    refine kz_lneg (M := kt_M536) kX13_single_c0.2.2.2.2.2.1 ?_
    refine kz_cv1 (M := kt_M536) (c := 12) (o := 0) (As := [.long ((-((x2).toInt64)))]) (rest := []) kX13_single_c0.2.2.2.2.2.2.1 wl_X13_842 wMv_406 rfl (.inl rfl) rfl (Nat.le_trans (Nat.le_of_ble_eq_true rfl) hL) (Nat.le_of_ble_eq_true rfl) (Nat.le_of_ble_eq_true rfl) h (fun v2 w1 hle h => ?_) (fun _ _ _ h => kzx_no rfl h)
    have h := h hle
    exact kz_iret (M := kt_M536) kX13_single_c0.2.2.2.2.2.2.2.1 rfl rfl h
  · skip
    refine kz_iload_n (M := kt_M536) kX13_single_c1.2.2.2.1 rfl ?_
    refine kz_ic (M := kt_M536) (-1) kX13_single_c1.2.2.2.2.1 rfl ?_
    refine kz_ixor (M := kt_M536) kX13_single_c1.2.2.2.2.2.1 ?_
    exact kz_iret (M := kt_M536) kX13_single_c1.2.2.2.2.2.2.1 rfl rfl h
  · skip
    refine kz_ic (M := kt_M536) 1 kX13_single_c1.2.2.2.2.2.2.2.1 rfl ?_
    refine kz_iload_n (M := kt_M536) kX13_single_c2.1 rfl ?_
    refine kz_isub (M := kt_M536) kX13_single_c2.2.1 ?_
    exact kz_iret (M := kt_M536) kX13_single_c2.2.2.1 rfl rfl h
def zb_X13_exact_p0 (E : zE) (L : Nat) (Q : kx_Rs → wS → Prop) (x1 : Int64) (w : wS) : Prop := (if (lg_cmp x1 (((x1).toInt32).toInt64)) = 0 then Q (.inl (some (.int ((x1).toInt32)))) w else zw E (L - 21) kt_M408 [.ref (w_adr E.2.1 12 0), .int 1] w (wkr (fun v2 w1 => wle w w1 → (v2 = some (w_adr E.2.1 13 0) ∧ Q (.inr "MeetingHouseModel$Halt") w1)) (fun e w => Q (.inr e) w)))
theorem zt_X13_exact_p0 {E : zE} {L : Nat} {Q : kx_Rs → wS → Prop} {x1 : Int64} {w : wS} (hL : 21 ≤ L) (h : zb_X13_exact_p0 E L Q x1 w) : kzE E L kt_M406 0 [(0, .ref (w_adr E.2.1 12 0)), (1, .long (x1))] [] w Q := by
  unfold zb_X13_exact_p0 at h
  refine kz_lload_n (M := kt_M406) kX13_exact_c0.1 rfl ?_
  refine kz_lload_n (M := kt_M406) kX13_exact_c0.2.1 rfl ?_
  refine kz_l2i (M := kt_M406) kX13_exact_c0.2.2.1 ?_
  refine kz_i2l (M := kt_M406) kX13_exact_c0.2.2.2.1 ?_
  refine kz_lcmp (M := kt_M406) kX13_exact_c0.2.2.2.2.1 ?_
  refine kz_if_eq (M := kt_M406) kX13_exact_c0.2.2.2.2.2.1 (t := 14) rfl h (fun h => ?_) (fun h => ?_)
  · skip
    refine kz_lload_n (M := kt_M406) kX13_exact_c1.2.2.1 rfl ?_
    refine kz_l2i (M := kt_M406) kX13_exact_c1.2.2.2.1 ?_
    exact kz_iret (M := kt_M406) kX13_exact_c1.2.2.2.2.1 rfl rfl h
  · skip
    refine kz_aload_n (M := kt_M406) kX13_exact_c0.2.2.2.2.2.2.1 rfl ?_
    refine kz_ic (M := kt_M406) 1 kX13_exact_c0.2.2.2.2.2.2.2.1 rfl ?_
    refine kz_cvr (M := kt_M406) (c := 12) (o := 0) (As := [.int 1]) (rest := []) kX13_exact_c1.1 wl_X13_839 wMv_408 rfl (.inl rfl) rfl (Nat.le_trans (Nat.le_of_ble_eq_true rfl) hL) (Nat.le_of_ble_eq_true rfl) (Nat.le_of_ble_eq_true rfl) h (fun v2 w1 hle h => ?_) (fun _ _ _ h => kzx_no rfl h)
    have h := h hle
    exact kz_throw (M := kt_M406) (c := 13) (o := 0) kX13_exact_c1.2.1 rfl (.inl rfl) h (fun h => kzx_no rfl h)
def zb_X13_fails_p0 (E : zE) (L : Nat) (Q : kx_Rs → wS → Prop) (x1 : Int32) (w : wS) : Prop := Q (.inl (some (va_rf (some (w_adr E.2.1 13 0))))) (ws_i w 12 0 72 x1)
theorem zt_X13_fails_p0 {E : zE} {L : Nat} {Q : kx_Rs → wS → Prop} {x1 : Int32} {w : wS} (hL : 19 ≤ L) (h : zb_X13_fails_p0 E L Q x1 w) : kzE E L kt_M408 0 [(0, .ref (w_adr E.2.1 12 0)), (1, .int x1)] [] w Q := by
  unfold zb_X13_fails_p0 at h
  refine kz_aload_n (M := kt_M408) kX13_fails_c0.1 rfl ?_
  refine kz_iload_n (M := kt_M408) kX13_fails_c0.2.1 rfl ?_
  refine kz_pfi (M := kt_M408) (c := 12) (o := 0) kX13_fails_c0.2.2.1 wq_X13_836 (.inl rfl) ?_
  refine kz_aload_n (M := kt_M408) kX13_fails_c0.2.2.2.1 rfl ?_
  refine kz_gfc (M := kt_M408) (x := 52) (c := 12) (o := 0) kX13_fails_c0.2.2.2.2.1 wf_X13_10 (.inl rfl) ?_
  exact kz_areto (x := some (w_adr E.2.1 13 0)) (M := kt_M408) kX13_fails_c0.2.2.2.2.2.1 rfl h
def zb_X13_isWorked_p160 (E : zE) (L : Nat) (Q : kx_Rs → wS → Prop) (y0 : Int32) (w : wS) : Prop := ((y0 = 0 ∨ y0 = 1) ∧ Q (.inl (some (.int y0))) w)
theorem zt_X13_isWorked_p160 {E : zE} {L : Nat} {Q : kx_Rs → wS → Prop} {y0 : Int32} {w : wS} (hL : 19 ≤ L) (h : zb_X13_isWorked_p160 E L Q y0 w) : kzE E L kt_M450 160 [] [.int y0] w Q := by
  unfold zb_X13_isWorked_p160 at h
  exact kz_iretz (M := kt_M450) kX13_isWorked_c9.2.1 rfl h.1 h.2
def zb_X13_isWorked_p159 (E : zE) (L : Nat) (Q : kx_Rs → wS → Prop) (w : wS) : Prop := zb_X13_isWorked_p160 E L Q 0 w
theorem zt_X13_isWorked_p159 {E : zE} {L : Nat} {Q : kx_Rs → wS → Prop} {w : wS} (hL : 19 ≤ L) (h : zb_X13_isWorked_p159 E L Q  w) : kzE E L kt_M450 159 [] [] w Q := by
  unfold zb_X13_isWorked_p159 at h
  refine kz_ic (M := kt_M450) 0 kX13_isWorked_c9.1 rfl ?_
  exact kz_weak [] trivial rfl (zt_X13_isWorked_p160 hL  h)
def zb_X13_isWorked_p144 (E : zE) (L : Nat) (Q : kx_Rs → wS → Prop) (y0 : Int32) (w : wS) : Prop := ((y0 = 0 ∨ y0 = 1) ∧ Q (.inl (some (.int y0))) w)
theorem zt_X13_isWorked_p144 {E : zE} {L : Nat} {Q : kx_Rs → wS → Prop} {y0 : Int32} {w : wS} (hL : 19 ≤ L) (h : zb_X13_isWorked_p144 E L Q y0 w) : kzE E L kt_M450 144 [] [.int y0] w Q := by
  unfold zb_X13_isWorked_p144 at h
  exact kz_iretz (M := kt_M450) kX13_isWorked_c8.1 rfl h.1 h.2
def zb_X13_isWorked_p134 (E : zE) (L : Nat) (Q : kx_Rs → wS → Prop) (y0 : Int32) (w : wS) : Prop := ((y0 = 0 ∨ y0 = 1) ∧ Q (.inl (some (.int y0))) w)
theorem zt_X13_isWorked_p134 {E : zE} {L : Nat} {Q : kx_Rs → wS → Prop} {y0 : Int32} {w : wS} (hL : 19 ≤ L) (h : zb_X13_isWorked_p134 E L Q y0 w) : kzE E L kt_M450 134 [] [.int y0] w Q := by
  unfold zb_X13_isWorked_p134 at h
  exact kz_iretz (M := kt_M450) kX13_isWorked_c7.2.2.1 rfl h.1 h.2
def zb_X13_isWorked_p133 (E : zE) (L : Nat) (Q : kx_Rs → wS → Prop) (w : wS) : Prop := zb_X13_isWorked_p134 E L Q 0 w
theorem zt_X13_isWorked_p133 {E : zE} {L : Nat} {Q : kx_Rs → wS → Prop} {w : wS} (hL : 19 ≤ L) (h : zb_X13_isWorked_p133 E L Q  w) : kzE E L kt_M450 133 [] [] w Q := by
  unfold zb_X13_isWorked_p133 at h
  refine kz_ic (M := kt_M450) 0 kX13_isWorked_c7.2.1 rfl ?_
  exact kz_weak [] trivial rfl (zt_X13_isWorked_p134 hL  h)
def zb_X13_isWorked_p129 (E : zE) (L : Nat) (Q : kx_Rs → wS → Prop) (w : wS) : Prop := zb_X13_isWorked_p134 E L Q 1 w
theorem zt_X13_isWorked_p129 {E : zE} {L : Nat} {Q : kx_Rs → wS → Prop} {w : wS} (hL : 19 ≤ L) (h : zb_X13_isWorked_p129 E L Q  w) : kzE E L kt_M450 129 [] [] w Q := by
  unfold zb_X13_isWorked_p129 at h
  refine kz_ic (M := kt_M450) 1 kX13_isWorked_c6.2.2.2.2.2.2.2.1 rfl ?_
  refine kz_goto (M := kt_M450) kX13_isWorked_c7.1 (t := 134) rfl ?_
  exact kz_weak [] trivial rfl (zt_X13_isWorked_p134 hL  h)
def zb_X13_isWorked_p112 (E : zE) (L : Nat) (Q : kx_Rs → wS → Prop) (y0 : Int32) (w : wS) : Prop := ((y0 = 0 ∨ y0 = 1) ∧ Q (.inl (some (.int y0))) w)
theorem zt_X13_isWorked_p112 {E : zE} {L : Nat} {Q : kx_Rs → wS → Prop} {y0 : Int32} {w : wS} (hL : 19 ≤ L) (h : zb_X13_isWorked_p112 E L Q y0 w) : kzE E L kt_M450 112 [] [.int y0] w Q := by
  unfold zb_X13_isWorked_p112 at h
  exact kz_iretz (M := kt_M450) kX13_isWorked_c5.2.2.2.2.2.2.1 rfl h.1 h.2
def zb_X13_isWorked_p93 (E : zE) (L : Nat) (Q : kx_Rs → wS → Prop) (y0 : Int32) (w : wS) : Prop := ((y0 = 0 ∨ y0 = 1) ∧ Q (.inl (some (.int y0))) w)
theorem zt_X13_isWorked_p93 {E : zE} {L : Nat} {Q : kx_Rs → wS → Prop} {y0 : Int32} {w : wS} (hL : 19 ≤ L) (h : zb_X13_isWorked_p93 E L Q y0 w) : kzE E L kt_M450 93 [] [.int y0] w Q := by
  unfold zb_X13_isWorked_p93 at h
  exact kz_iretz (M := kt_M450) kX13_isWorked_c3.2.2.2.2.2.2.2.1 rfl h.1 h.2
def zb_X13_isWorked_p74 (E : zE) (L : Nat) (Q : kx_Rs → wS → Prop) (y0 : Int32) (w : wS) : Prop := ((y0 = 0 ∨ y0 = 1) ∧ Q (.inl (some (.int y0))) w)
theorem zt_X13_isWorked_p74 {E : zE} {L : Nat} {Q : kx_Rs → wS → Prop} {y0 : Int32} {w : wS} (hL : 19 ≤ L) (h : zb_X13_isWorked_p74 E L Q y0 w) : kzE E L kt_M450 74 [] [.int y0] w Q := by
  unfold zb_X13_isWorked_p74 at h
  exact kz_iretz (M := kt_M450) kX13_isWorked_c2.1 rfl h.1 h.2
def zb_X13_isWorked_p0 (E : zE) (L : Nat) (Q : kx_Rs → wS → Prop) (x0 : Int32) (x1 : Int32) (x2 : Int32) (w : wS) : Prop := (if x0 = 57 then (if ¬ (lg_cmp (((x1).toInt64) + ((x2).toInt64)) (((x1 + x2)).toInt64)) = 0 then zb_X13_isWorked_p74 E L Q 0 w else zb_X13_isWorked_p74 E L Q 1 w) else (if x0 = 58 then (if ¬ (lg_cmp (((x1).toInt64) - ((x2).toInt64)) (((x1 - x2)).toInt64)) = 0 then zb_X13_isWorked_p93 E L Q 0 w else zb_X13_isWorked_p93 E L Q 1 w) else (if x0 = 59 then (if ¬ (lg_cmp (((x1).toInt64) * ((x2).toInt64)) (((x1 * x2)).toInt64)) = 0 then zb_X13_isWorked_p112 E L Q 0 w else zb_X13_isWorked_p112 E L Q 1 w) else (if x0 = 60 then (if x2 = 0 then zb_X13_isWorked_p133 E L Q w else (if ¬ x1 = (-2147483648) then zb_X13_isWorked_p129 E L Q w else (if x2 = (-1) then zb_X13_isWorked_p133 E L Q w else zb_X13_isWorked_p129 E L Q w))) else (if x0 = 61 then (if x2 = 0 then zb_X13_isWorked_p144 E L Q 0 w else zb_X13_isWorked_p144 E L Q 1 w) else (if x0 = 65 then (if x2 < 0 then zb_X13_isWorked_p159 E L Q w else (if 32 < x2 then zb_X13_isWorked_p159 E L Q w else zb_X13_isWorked_p160 E L Q 1 w)) else (if x0 = 66 then (if x2 < 0 then zb_X13_isWorked_p159 E L Q w else (if 32 < x2 then zb_X13_isWorked_p159 E L Q w else zb_X13_isWorked_p160 E L Q 1 w)) else Q (.inl (some (.int 1))) w)))))))
theorem zt_X13_isWorked_p0 {E : zE} {L : Nat} {Q : kx_Rs → wS → Prop} {x0 : Int32} {x1 : Int32} {x2 : Int32} {w : wS} (hL : 19 ≤ L) (h : zb_X13_isWorked_p0 E L Q x0 x1 x2 w) : kzE E L kt_M450 0 [(0, .int x0), (1, .int x1), (2, .int x2)] [] w Q := by
  unfold zb_X13_isWorked_p0 at h
  refine kz_iload_n (M := kt_M450) kX13_isWorked_c0.1 rfl ?_
  refine kz_tsw (M := kt_M450) [(57, 56), (58, 75), (59, 94), (60, 113), (61, 135), (65, 145), (66, 145)] [_, _, _, _, _, _, _] 161 dX13_isWorked_p1 (by decide +kernel) h ⟨fun h => ?_, fun h => ?_, fun h => ?_, fun h => ?_, fun h => ?_, fun h => ?_, fun h => ?_, trivial⟩ (fun h => ?_)
  · skip
    refine kz_iload_n (M := kt_M450) kX13_isWorked_c0.2.2.1 rfl ?_
    refine kz_i2l (M := kt_M450) kX13_isWorked_c0.2.2.2.1 ?_
    refine kz_iload_n (M := kt_M450) kX13_isWorked_c0.2.2.2.2.1 rfl ?_
    refine kz_i2l (M := kt_M450) kX13_isWorked_c0.2.2.2.2.2.1 ?_
    refine kz_ladd (M := kt_M450) kX13_isWorked_c0.2.2.2.2.2.2.1 ?_
    refine kz_iload_n (M := kt_M450) kX13_isWorked_c0.2.2.2.2.2.2.2.1 rfl ?_
    refine kz_iload_n (M := kt_M450) kX13_isWorked_c1.1 rfl ?_
    refine kz_iadd (M := kt_M450) kX13_isWorked_c1.2.1 ?_
    refine kz_i2l (M := kt_M450) kX13_isWorked_c1.2.2.1 ?_
    refine kz_lcmp (M := kt_M450) kX13_isWorked_c1.2.2.2.1 ?_
    refine kz_if_ne (M := kt_M450) kX13_isWorked_c1.2.2.2.2.1 (t := 73) rfl h (fun h => ?_) (fun h => ?_)
    · skip
      refine kz_ic (M := kt_M450) 0 kX13_isWorked_c1.2.2.2.2.2.2.2.1 rfl ?_
      exact kz_weak [] trivial rfl (zt_X13_isWorked_p74 hL  h)
    · skip
      refine kz_ic (M := kt_M450) 1 kX13_isWorked_c1.2.2.2.2.2.1 rfl ?_
      refine kz_goto (M := kt_M450) kX13_isWorked_c1.2.2.2.2.2.2.1 (t := 74) rfl ?_
      exact kz_weak [] trivial rfl (zt_X13_isWorked_p74 hL  h)
  · skip
    refine kz_iload_n (M := kt_M450) kX13_isWorked_c2.2.1 rfl ?_
    refine kz_i2l (M := kt_M450) kX13_isWorked_c2.2.2.1 ?_
    refine kz_iload_n (M := kt_M450) kX13_isWorked_c2.2.2.2.1 rfl ?_
    refine kz_i2l (M := kt_M450) kX13_isWorked_c2.2.2.2.2.1 ?_
    refine kz_lsub (M := kt_M450) kX13_isWorked_c2.2.2.2.2.2.1 ?_
    refine kz_iload_n (M := kt_M450) kX13_isWorked_c2.2.2.2.2.2.2.1 rfl ?_
    refine kz_iload_n (M := kt_M450) kX13_isWorked_c2.2.2.2.2.2.2.2.1 rfl ?_
    refine kz_isub (M := kt_M450) kX13_isWorked_c3.1 ?_
    refine kz_i2l (M := kt_M450) kX13_isWorked_c3.2.1 ?_
    refine kz_lcmp (M := kt_M450) kX13_isWorked_c3.2.2.1 ?_
    refine kz_if_ne (M := kt_M450) kX13_isWorked_c3.2.2.2.1 (t := 92) rfl h (fun h => ?_) (fun h => ?_)
    · skip
      refine kz_ic (M := kt_M450) 0 kX13_isWorked_c3.2.2.2.2.2.2.1 rfl ?_
      exact kz_weak [] trivial rfl (zt_X13_isWorked_p93 hL  h)
    · skip
      refine kz_ic (M := kt_M450) 1 kX13_isWorked_c3.2.2.2.2.1 rfl ?_
      refine kz_goto (M := kt_M450) kX13_isWorked_c3.2.2.2.2.2.1 (t := 93) rfl ?_
      exact kz_weak [] trivial rfl (zt_X13_isWorked_p93 hL  h)
  · skip
    refine kz_iload_n (M := kt_M450) kX13_isWorked_c4.1 rfl ?_
    refine kz_i2l (M := kt_M450) kX13_isWorked_c4.2.1 ?_
    refine kz_iload_n (M := kt_M450) kX13_isWorked_c4.2.2.1 rfl ?_
    refine kz_i2l (M := kt_M450) kX13_isWorked_c4.2.2.2.1 ?_
    refine kz_lmul (M := kt_M450) kX13_isWorked_c4.2.2.2.2.1 ?_
    refine kz_iload_n (M := kt_M450) kX13_isWorked_c4.2.2.2.2.2.1 rfl ?_
    refine kz_iload_n (M := kt_M450) kX13_isWorked_c4.2.2.2.2.2.2.1 rfl ?_
    refine kz_imul (M := kt_M450) kX13_isWorked_c4.2.2.2.2.2.2.2.1 ?_
    refine kz_i2l (M := kt_M450) kX13_isWorked_c5.1 ?_
    refine kz_lcmp (M := kt_M450) kX13_isWorked_c5.2.1 ?_
    refine kz_if_ne (M := kt_M450) kX13_isWorked_c5.2.2.1 (t := 111) rfl h (fun h => ?_) (fun h => ?_)
    · skip
      refine kz_ic (M := kt_M450) 0 kX13_isWorked_c5.2.2.2.2.2.1 rfl ?_
      exact kz_weak [] trivial rfl (zt_X13_isWorked_p112 hL  h)
    · skip
      refine kz_ic (M := kt_M450) 1 kX13_isWorked_c5.2.2.2.1 rfl ?_
      refine kz_goto (M := kt_M450) kX13_isWorked_c5.2.2.2.2.1 (t := 112) rfl ?_
      exact kz_weak [] trivial rfl (zt_X13_isWorked_p112 hL  h)
  · skip
    refine kz_iload_n (M := kt_M450) kX13_isWorked_c5.2.2.2.2.2.2.2.1 rfl ?_
    refine kz_if_eq (M := kt_M450) kX13_isWorked_c6.1 (t := 133) rfl h (fun h => ?_) (fun h => ?_)
    · skip
      exact kz_weak [] trivial rfl (zt_X13_isWorked_p133 hL  h)
    · skip
      refine kz_iload_n (M := kt_M450) kX13_isWorked_c6.2.1 rfl ?_
      refine kz_ldcw (M := kt_M450) (x := (-2147483648)) kX13_isWorked_c6.2.2.1 (zc_X13_823) ?_
      refine kz_icmp_ne (M := kt_M450) kX13_isWorked_c6.2.2.2.1 (t := 129) rfl h (fun h => ?_) (fun h => ?_)
      · skip
        exact kz_weak [] trivial rfl (zt_X13_isWorked_p129 hL  h)
      · skip
        refine kz_iload_n (M := kt_M450) kX13_isWorked_c6.2.2.2.2.1 rfl ?_
        refine kz_ic (M := kt_M450) (-1) kX13_isWorked_c6.2.2.2.2.2.1 rfl ?_
        refine kz_icmp_eq (M := kt_M450) kX13_isWorked_c6.2.2.2.2.2.2.1 (t := 133) rfl h (fun h => ?_) (fun h => ?_)
        · skip
          exact kz_weak [] trivial rfl (zt_X13_isWorked_p133 hL  h)
        · skip
          exact kz_weak [] trivial rfl (zt_X13_isWorked_p129 hL  h)
  · skip
    refine kz_iload_n (M := kt_M450) kX13_isWorked_c7.2.2.2.1 rfl ?_
    refine kz_if_eq (M := kt_M450) kX13_isWorked_c7.2.2.2.2.1 (t := 143) rfl h (fun h => ?_) (fun h => ?_)
    · skip
      refine kz_ic (M := kt_M450) 0 kX13_isWorked_c7.2.2.2.2.2.2.2.1 rfl ?_
      exact kz_weak [] trivial rfl (zt_X13_isWorked_p144 hL  h)
    · skip
      refine kz_ic (M := kt_M450) 1 kX13_isWorked_c7.2.2.2.2.2.1 rfl ?_
      refine kz_goto (M := kt_M450) kX13_isWorked_c7.2.2.2.2.2.2.1 (t := 144) rfl ?_
      exact kz_weak [] trivial rfl (zt_X13_isWorked_p144 hL  h)
  · skip
    refine kz_iload_n (M := kt_M450) kX13_isWorked_c8.2.1 rfl ?_
    refine kz_if_lt (M := kt_M450) kX13_isWorked_c8.2.2.1 (t := 159) rfl h (fun h => ?_) (fun h => ?_)
    · skip
      exact kz_weak [] trivial rfl (zt_X13_isWorked_p159 hL  h)
    · skip
      refine kz_iload_n (M := kt_M450) kX13_isWorked_c8.2.2.2.1 rfl ?_
      refine kz_bi (M := kt_M450) 32 kX13_isWorked_c8.2.2.2.2.1 rfl ?_
      refine kz_icmp_gt (M := kt_M450) kX13_isWorked_c8.2.2.2.2.2.1 (t := 159) rfl h (fun h => ?_) (fun h => ?_)
      · skip
        exact kz_weak [] trivial rfl (zt_X13_isWorked_p159 hL  h)
      · skip
        refine kz_ic (M := kt_M450) 1 kX13_isWorked_c8.2.2.2.2.2.2.1 rfl ?_
        refine kz_goto (M := kt_M450) kX13_isWorked_c8.2.2.2.2.2.2.2.1 (t := 160) rfl ?_
        exact kz_weak [] trivial rfl (zt_X13_isWorked_p160 hL  h)
  · skip
    refine kz_iload_n (M := kt_M450) kX13_isWorked_c8.2.1 rfl ?_
    refine kz_if_lt (M := kt_M450) kX13_isWorked_c8.2.2.1 (t := 159) rfl h (fun h => ?_) (fun h => ?_)
    · skip
      exact kz_weak [] trivial rfl (zt_X13_isWorked_p159 hL  h)
    · skip
      refine kz_iload_n (M := kt_M450) kX13_isWorked_c8.2.2.2.1 rfl ?_
      refine kz_bi (M := kt_M450) 32 kX13_isWorked_c8.2.2.2.2.1 rfl ?_
      refine kz_icmp_gt (M := kt_M450) kX13_isWorked_c8.2.2.2.2.2.1 (t := 159) rfl h (fun h => ?_) (fun h => ?_)
      · skip
        exact kz_weak [] trivial rfl (zt_X13_isWorked_p159 hL  h)
      · skip
        refine kz_ic (M := kt_M450) 1 kX13_isWorked_c8.2.2.2.2.2.2.1 rfl ?_
        refine kz_goto (M := kt_M450) kX13_isWorked_c8.2.2.2.2.2.2.2.1 (t := 160) rfl ?_
        exact kz_weak [] trivial rfl (zt_X13_isWorked_p160 hL  h)
  · skip
    refine kz_ic (M := kt_M450) 1 kX13_isWorked_c9.2.2.1 rfl ?_
    exact kz_iretz (M := kt_M450) kX13_isWorked_c9.2.2.2.1 rfl (by decide) h
def zb_X13_worked_p439 (E : zE) (L : Nat) (Q : kx_Rs → wS → Prop) (y0 : Int32) (w : wS) : Prop := Q (.inl (some (.int y0))) w
theorem zt_X13_worked_p439 {E : zE} {L : Nat} {Q : kx_Rs → wS → Prop} {y0 : Int32} {w : wS} (hL : 22 ≤ L) (h : zb_X13_worked_p439 E L Q y0 w) : kzE E L kt_M605 439 [(0, .ref (w_adr E.2.1 12 0))] [.int y0] w Q := by
  unfold zb_X13_worked_p439 at h
  exact kz_iret (M := kt_M605) kX13_worked_c18.2.2.2.2.2.2.2.1 rfl rfl h
def zb_X13_worked_p427 (E : zE) (L : Nat) (Q : kx_Rs → wS → Prop) (y0 : Int32) (w : wS) : Prop := Q (.inl (some (.int y0))) w
theorem zt_X13_worked_p427 {E : zE} {L : Nat} {Q : kx_Rs → wS → Prop} {y0 : Int32} {w : wS} (hL : 22 ≤ L) (h : zb_X13_worked_p427 E L Q y0 w) : kzE E L kt_M605 427 [(0, .ref (w_adr E.2.1 12 0))] [.int y0] w Q := by
  unfold zb_X13_worked_p427 at h
  exact kz_iret (M := kt_M605) kX13_worked_c17.2.2.2.2.2.2.2.1 rfl rfl h
def zb_X13_worked_p416 (E : zE) (L : Nat) (Q : kx_Rs → wS → Prop) (y0 : Int32) (w : wS) : Prop := Q (.inl (some (.int y0))) w
theorem zt_X13_worked_p416 {E : zE} {L : Nat} {Q : kx_Rs → wS → Prop} {y0 : Int32} {w : wS} (hL : 22 ≤ L) (h : zb_X13_worked_p416 E L Q y0 w) : kzE E L kt_M605 416 [(0, .ref (w_adr E.2.1 12 0))] [.int y0] w Q := by
  unfold zb_X13_worked_p416 at h
  exact kz_iret (M := kt_M605) kX13_worked_c17.1 rfl rfl h
def zb_X13_worked_p405 (E : zE) (L : Nat) (Q : kx_Rs → wS → Prop) (y0 : Int32) (w : wS) : Prop := Q (.inl (some (.int y0))) w
theorem zt_X13_worked_p405 {E : zE} {L : Nat} {Q : kx_Rs → wS → Prop} {y0 : Int32} {w : wS} (hL : 22 ≤ L) (h : zb_X13_worked_p405 E L Q y0 w) : kzE E L kt_M605 405 [(0, .ref (w_adr E.2.1 12 0))] [.int y0] w Q := by
  unfold zb_X13_worked_p405 at h
  exact kz_iret (M := kt_M605) kX13_worked_c16.2.1 rfl rfl h
def zb_X13_worked_p394 (E : zE) (L : Nat) (Q : kx_Rs → wS → Prop) (y0 : Int32) (w : wS) : Prop := Q (.inl (some (.int y0))) w
theorem zt_X13_worked_p394 {E : zE} {L : Nat} {Q : kx_Rs → wS → Prop} {y0 : Int32} {w : wS} (hL : 22 ≤ L) (h : zb_X13_worked_p394 E L Q y0 w) : kzE E L kt_M605 394 [(0, .ref (w_adr E.2.1 12 0))] [.int y0] w Q := by
  unfold zb_X13_worked_p394 at h
  exact kz_iret (M := kt_M605) kX13_worked_c15.2.2.1 rfl rfl h
def zb_X13_worked_p383 (E : zE) (L : Nat) (Q : kx_Rs → wS → Prop) (y0 : Int32) (w : wS) : Prop := Q (.inl (some (.int y0))) w
theorem zt_X13_worked_p383 {E : zE} {L : Nat} {Q : kx_Rs → wS → Prop} {y0 : Int32} {w : wS} (hL : 22 ≤ L) (h : zb_X13_worked_p383 E L Q y0 w) : kzE E L kt_M605 383 [(0, .ref (w_adr E.2.1 12 0))] [.int y0] w Q := by
  unfold zb_X13_worked_p383 at h
  exact kz_iret (M := kt_M605) kX13_worked_c14.2.2.2.1 rfl rfl h
def zb_X13_worked_p372 (E : zE) (L : Nat) (Q : kx_Rs → wS → Prop) (y0 : Int32) (w : wS) : Prop := Q (.inl (some (.int y0))) w
theorem zt_X13_worked_p372 {E : zE} {L : Nat} {Q : kx_Rs → wS → Prop} {y0 : Int32} {w : wS} (hL : 22 ≤ L) (h : zb_X13_worked_p372 E L Q y0 w) : kzE E L kt_M605 372 [(0, .ref (w_adr E.2.1 12 0))] [.int y0] w Q := by
  unfold zb_X13_worked_p372 at h
  exact kz_iret (M := kt_M605) kX13_worked_c13.2.2.2.2.1 rfl rfl h
def zb_X13_worked_p361 (E : zE) (L : Nat) (Q : kx_Rs → wS → Prop) (y0 : Int32) (w : wS) : Prop := Q (.inl (some (.int y0))) w
theorem zt_X13_worked_p361 {E : zE} {L : Nat} {Q : kx_Rs → wS → Prop} {y0 : Int32} {w : wS} (hL : 22 ≤ L) (h : zb_X13_worked_p361 E L Q y0 w) : kzE E L kt_M605 361 [(0, .ref (w_adr E.2.1 12 0))] [.int y0] w Q := by
  unfold zb_X13_worked_p361 at h
  exact kz_iret (M := kt_M605) kX13_worked_c12.2.2.2.2.2.1 rfl rfl h
def zb_X13_worked_p329 (E : zE) (L : Nat) (Q : kx_Rs → wS → Prop) (w : wS) : Prop := zw E (L - 21) kt_M408 [.ref (w_adr E.2.1 12 0), .int 8] w (wkr (fun v2 w1 => wle w w1 → (v2 = some (w_adr E.2.1 13 0) ∧ Q (.inr "MeetingHouseModel$Halt") w1)) (fun e w => Q (.inr e) w))
theorem zt_X13_worked_p329 {E : zE} {L : Nat} {Q : kx_Rs → wS → Prop} {w : wS} (hL : 22 ≤ L) (h : zb_X13_worked_p329 E L Q  w) : kzE E L kt_M605 329 [(0, .ref (w_adr E.2.1 12 0))] [] w Q := by
  unfold zb_X13_worked_p329 at h
  refine kz_aload_n (M := kt_M605) kX13_worked_c10.2.2.1 rfl ?_
  refine kz_bi (M := kt_M605) 8 kX13_worked_c10.2.2.2.1 rfl ?_
  refine kz_cvr (M := kt_M605) (c := 12) (o := 0) (As := [.int 8]) (rest := []) kX13_worked_c10.2.2.2.2.1 wl_X13_839 wMv_408 rfl (.inl rfl) rfl (Nat.le_trans (Nat.le_of_ble_eq_true rfl) hL) (Nat.le_of_ble_eq_true rfl) (Nat.le_of_ble_eq_true rfl) h (fun v2 w1 hle h => ?_) (fun _ _ _ h => kzx_no rfl h)
  have h := h hle
  exact kz_throw (M := kt_M605) (c := 13) (o := 0) kX13_worked_c10.2.2.2.2.2.1 rfl (.inl rfl) h (fun h => kzx_no rfl h)
def zb_X13_worked_p0 (E : zE) (L : Nat) (Q : kx_Rs → wS → Prop) (x1 : Int32) (x2 : Int32) (x3 : Int32) (w : wS) : Prop := (if x1 = 14 then Q (.inl (some (.int (x2 - x3)))) w else (if x1 = 21 then Q (.inl (some (.int (x2 + x3)))) w else (if x1 = 31 then Q (.inl (some (.int (x2 * x3)))) w else (if x1 = 51 then (if ¬ x2 = x3 then zb_X13_worked_p372 E L Q 0 w else zb_X13_worked_p372 E L Q 1 w) else (if x1 = 52 then (if x2 = x3 then zb_X13_worked_p383 E L Q 0 w else zb_X13_worked_p383 E L Q 1 w) else (if x1 = 53 then (if x3 ≤ x2 then zb_X13_worked_p394 E L Q 0 w else zb_X13_worked_p394 E L Q 1 w) else (if x1 = 54 then (if x3 < x2 then zb_X13_worked_p405 E L Q 0 w else zb_X13_worked_p405 E L Q 1 w) else (if x1 = 55 then (if x2 ≤ x3 then zb_X13_worked_p416 E L Q 0 w else zb_X13_worked_p416 E L Q 1 w) else (if x1 = 56 then (if x2 < x3 then zb_X13_worked_p427 E L Q 0 w else zb_X13_worked_p427 E L Q 1 w) else (if x1 = 57 then zw E (L - 22) kt_M406 [.ref (w_adr E.2.1 12 0), .long ((((x2).toInt64) + ((x3).toInt64)))] w (wk1 (fun v2 w1 => wle w w1 → Q (.inl (some (.int v2))) w1) (fun e w => Q (.inr e) w)) else (if x1 = 58 then zw E (L - 22) kt_M406 [.ref (w_adr E.2.1 12 0), .long ((((x2).toInt64) - ((x3).toInt64)))] w (wk1 (fun v4 w3 => wle w w3 → Q (.inl (some (.int v4))) w3) (fun e w => Q (.inr e) w)) else (if x1 = 59 then zw E (L - 22) kt_M406 [.ref (w_adr E.2.1 12 0), .long ((((x2).toInt64) * ((x3).toInt64)))] w (wk1 (fun v6 w5 => wle w w5 → Q (.inl (some (.int v6))) w5) (fun e w => Q (.inr e) w)) else (if x1 = 60 then (if ¬ x3 = 0 then (¬ ((x3).toInt64) = 0 ∧ zw E (L - 22) kt_M406 [.ref (w_adr E.2.1 12 0), .long ((((x2).toInt64) / ((x3).toInt64)))] w (wk1 (fun v8 w7 => wle w w7 → Q (.inl (some (.int v8))) w7) (fun e w => Q (.inr e) w))) else zw E (L - 21) kt_M408 [.ref (w_adr E.2.1 12 0), .int 2] w (wkr (fun v10 w9 => wle w w9 → (v10 = some (w_adr E.2.1 13 0) ∧ Q (.inr "MeetingHouseModel$Halt") w9)) (fun e w => Q (.inr e) w))) else (if x1 = 61 then (if ¬ x3 = 0 then (¬ ((x3).toInt64) = 0 ∧ Q (.inl (some (.int (((((x2).toInt64) - ((x2).toInt64) / ((x3).toInt64) * ((x3).toInt64))).toInt32)))) w) else zw E (L - 21) kt_M408 [.ref (w_adr E.2.1 12 0), .int 2] w (wkr (fun v12 w11 => wle w w11 → (v12 = some (w_adr E.2.1 13 0) ∧ Q (.inr "MeetingHouseModel$Halt") w11)) (fun e w => Q (.inr e) w))) else (if x1 = 62 then Q (.inl (some (.int (x2 &&& x3)))) w else (if x1 = 63 then Q (.inl (some (.int (x2 ||| x3)))) w else (if x1 = 64 then Q (.inl (some (.int (x2 ^^^ x3)))) w else (if x1 = 65 then (if x3 < 0 then zb_X13_worked_p329 E L Q w else (if x3 ≤ 32 then (if ¬ x3 = 32 then (if ¬ x1 = 65 then zb_X13_worked_p361 E L Q (((x2).toUInt32 >>> ((x3).toUInt32 &&& Int32.toUInt32 31)).toInt32) w else zb_X13_worked_p361 E L Q (x2 <<< (x3 &&& 31)) w) else zb_X13_worked_p361 E L Q 0 w) else zb_X13_worked_p329 E L Q w)) else (if x1 = 66 then (if x3 < 0 then zb_X13_worked_p329 E L Q w else (if x3 ≤ 32 then (if ¬ x3 = 32 then (if ¬ x1 = 65 then zb_X13_worked_p361 E L Q (((x2).toUInt32 >>> ((x3).toUInt32 &&& Int32.toUInt32 31)).toInt32) w else zb_X13_worked_p361 E L Q (x2 <<< (x3 &&& 31)) w) else zb_X13_worked_p361 E L Q 0 w) else zb_X13_worked_p329 E L Q w)) else (if (x2 - x3) ≤ 0 then zb_X13_worked_p439 E L Q 0 w else zb_X13_worked_p439 E L Q 1 w))))))))))))))))))))
theorem zt_X13_worked_p0 {E : zE} {L : Nat} {Q : kx_Rs → wS → Prop} {x1 : Int32} {x2 : Int32} {x3 : Int32} {w : wS} (hL : 22 ≤ L) (h : zb_X13_worked_p0 E L Q x1 x2 x3 w) : kzE E L kt_M605 0 [(0, .ref (w_adr E.2.1 12 0)), (1, .int x1), (2, .int x2), (3, .int x3)] [] w Q := by
  unfold zb_X13_worked_p0 at h
  refine kz_iload_n (M := kt_M605) kX13_worked_c0.1 rfl ?_
  refine kz_tsw (M := kt_M605) [(14, 299), (21, 295), (31, 303), (51, 362), (52, 373), (53, 384), (54, 395), (55, 406), (56, 417), (57, 228), (58, 238), (59, 248), (60, 258), (61, 278), (62, 307), (63, 311), (64, 315), (65, 319), (66, 319)] [_, _, _, _, _, _, _, _, _, _, _, _, _, _, _, _, _, _, _] 428 dX13_worked_p1 (by decide +kernel) h ⟨fun h => ?_, fun h => ?_, fun h => ?_, fun h => ?_, fun h => ?_, fun h => ?_, fun h => ?_, fun h => ?_, fun h => ?_, fun h => ?_, fun h => ?_, fun h => ?_, fun h => ?_, fun h => ?_, fun h => ?_, fun h => ?_, fun h => ?_, fun h => ?_, fun h => ?_, trivial⟩ (fun h => ?_)
  · skip
    refine kz_iload_n (M := kt_M605) kX13_worked_c7.2.1 rfl ?_
    refine kz_iload_n (M := kt_M605) kX13_worked_c7.2.2.1 rfl ?_
    refine kz_isub (M := kt_M605) kX13_worked_c7.2.2.2.1 ?_
    exact kz_iret (M := kt_M605) kX13_worked_c7.2.2.2.2.1 rfl rfl h
  · skip
    refine kz_iload_n (M := kt_M605) kX13_worked_c6.2.2.2.2.2.1 rfl ?_
    refine kz_iload_n (M := kt_M605) kX13_worked_c6.2.2.2.2.2.2.1 rfl ?_
    refine kz_iadd (M := kt_M605) kX13_worked_c6.2.2.2.2.2.2.2.1 ?_
    exact kz_iret (M := kt_M605) kX13_worked_c7.1 rfl rfl h
  · skip
    refine kz_iload_n (M := kt_M605) kX13_worked_c7.2.2.2.2.2.1 rfl ?_
    refine kz_iload_n (M := kt_M605) kX13_worked_c7.2.2.2.2.2.2.1 rfl ?_
    refine kz_imul (M := kt_M605) kX13_worked_c7.2.2.2.2.2.2.2.1 ?_
    exact kz_iret (M := kt_M605) kX13_worked_c8.1 rfl rfl h
  · skip
    refine kz_iload_n (M := kt_M605) kX13_worked_c12.2.2.2.2.2.2.1 rfl ?_
    refine kz_iload_n (M := kt_M605) kX13_worked_c12.2.2.2.2.2.2.2.1 rfl ?_
    refine kz_icmp_ne (M := kt_M605) kX13_worked_c13.1 (t := 371) rfl h (fun h => ?_) (fun h => ?_)
    · skip
      refine kz_ic (M := kt_M605) 0 kX13_worked_c13.2.2.2.1 rfl ?_
      exact kz_weak [(0, .ref (w_adr E.2.1 12 0))] ⟨rfl, trivial⟩ rfl (zt_X13_worked_p372 hL  h)
    · skip
      refine kz_ic (M := kt_M605) 1 kX13_worked_c13.2.1 rfl ?_
      refine kz_goto (M := kt_M605) kX13_worked_c13.2.2.1 (t := 372) rfl ?_
      exact kz_weak [(0, .ref (w_adr E.2.1 12 0))] ⟨rfl, trivial⟩ rfl (zt_X13_worked_p372 hL  h)
  · skip
    refine kz_iload_n (M := kt_M605) kX13_worked_c13.2.2.2.2.2.1 rfl ?_
    refine kz_iload_n (M := kt_M605) kX13_worked_c13.2.2.2.2.2.2.1 rfl ?_
    refine kz_icmp_eq (M := kt_M605) kX13_worked_c13.2.2.2.2.2.2.2.1 (t := 382) rfl h (fun h => ?_) (fun h => ?_)
    · skip
      refine kz_ic (M := kt_M605) 0 kX13_worked_c14.2.2.1 rfl ?_
      exact kz_weak [(0, .ref (w_adr E.2.1 12 0))] ⟨rfl, trivial⟩ rfl (zt_X13_worked_p383 hL  h)
    · skip
      refine kz_ic (M := kt_M605) 1 kX13_worked_c14.1 rfl ?_
      refine kz_goto (M := kt_M605) kX13_worked_c14.2.1 (t := 383) rfl ?_
      exact kz_weak [(0, .ref (w_adr E.2.1 12 0))] ⟨rfl, trivial⟩ rfl (zt_X13_worked_p383 hL  h)
  · skip
    refine kz_iload_n (M := kt_M605) kX13_worked_c14.2.2.2.2.1 rfl ?_
    refine kz_iload_n (M := kt_M605) kX13_worked_c14.2.2.2.2.2.1 rfl ?_
    refine kz_icmp_ge (M := kt_M605) kX13_worked_c14.2.2.2.2.2.2.1 (t := 393) rfl h (fun h => ?_) (fun h => ?_)
    · skip
      refine kz_ic (M := kt_M605) 0 kX13_worked_c15.2.1 rfl ?_
      exact kz_weak [(0, .ref (w_adr E.2.1 12 0))] ⟨rfl, trivial⟩ rfl (zt_X13_worked_p394 hL  h)
    · skip
      refine kz_ic (M := kt_M605) 1 kX13_worked_c14.2.2.2.2.2.2.2.1 rfl ?_
      refine kz_goto (M := kt_M605) kX13_worked_c15.1 (t := 394) rfl ?_
      exact kz_weak [(0, .ref (w_adr E.2.1 12 0))] ⟨rfl, trivial⟩ rfl (zt_X13_worked_p394 hL  h)
  · skip
    refine kz_iload_n (M := kt_M605) kX13_worked_c15.2.2.2.1 rfl ?_
    refine kz_iload_n (M := kt_M605) kX13_worked_c15.2.2.2.2.1 rfl ?_
    refine kz_icmp_gt (M := kt_M605) kX13_worked_c15.2.2.2.2.2.1 (t := 404) rfl h (fun h => ?_) (fun h => ?_)
    · skip
      refine kz_ic (M := kt_M605) 0 kX13_worked_c16.1 rfl ?_
      exact kz_weak [(0, .ref (w_adr E.2.1 12 0))] ⟨rfl, trivial⟩ rfl (zt_X13_worked_p405 hL  h)
    · skip
      refine kz_ic (M := kt_M605) 1 kX13_worked_c15.2.2.2.2.2.2.1 rfl ?_
      refine kz_goto (M := kt_M605) kX13_worked_c15.2.2.2.2.2.2.2.1 (t := 405) rfl ?_
      exact kz_weak [(0, .ref (w_adr E.2.1 12 0))] ⟨rfl, trivial⟩ rfl (zt_X13_worked_p405 hL  h)
  · skip
    refine kz_iload_n (M := kt_M605) kX13_worked_c16.2.2.1 rfl ?_
    refine kz_iload_n (M := kt_M605) kX13_worked_c16.2.2.2.1 rfl ?_
    refine kz_icmp_le (M := kt_M605) kX13_worked_c16.2.2.2.2.1 (t := 415) rfl h (fun h => ?_) (fun h => ?_)
    · skip
      refine kz_ic (M := kt_M605) 0 kX13_worked_c16.2.2.2.2.2.2.2.1 rfl ?_
      exact kz_weak [(0, .ref (w_adr E.2.1 12 0))] ⟨rfl, trivial⟩ rfl (zt_X13_worked_p416 hL  h)
    · skip
      refine kz_ic (M := kt_M605) 1 kX13_worked_c16.2.2.2.2.2.1 rfl ?_
      refine kz_goto (M := kt_M605) kX13_worked_c16.2.2.2.2.2.2.1 (t := 416) rfl ?_
      exact kz_weak [(0, .ref (w_adr E.2.1 12 0))] ⟨rfl, trivial⟩ rfl (zt_X13_worked_p416 hL  h)
  · skip
    refine kz_iload_n (M := kt_M605) kX13_worked_c17.2.1 rfl ?_
    refine kz_iload_n (M := kt_M605) kX13_worked_c17.2.2.1 rfl ?_
    refine kz_icmp_lt (M := kt_M605) kX13_worked_c17.2.2.2.1 (t := 426) rfl h (fun h => ?_) (fun h => ?_)
    · skip
      refine kz_ic (M := kt_M605) 0 kX13_worked_c17.2.2.2.2.2.2.1 rfl ?_
      exact kz_weak [(0, .ref (w_adr E.2.1 12 0))] ⟨rfl, trivial⟩ rfl (zt_X13_worked_p427 hL  h)
    · skip
      refine kz_ic (M := kt_M605) 1 kX13_worked_c17.2.2.2.2.1 rfl ?_
      refine kz_goto (M := kt_M605) kX13_worked_c17.2.2.2.2.2.1 (t := 427) rfl ?_
      exact kz_weak [(0, .ref (w_adr E.2.1 12 0))] ⟨rfl, trivial⟩ rfl (zt_X13_worked_p427 hL  h)
  · skip
    refine kz_aload_n (M := kt_M605) kX13_worked_c0.2.2.1 rfl ?_
    refine kz_iload_n (M := kt_M605) kX13_worked_c0.2.2.2.1 rfl ?_
    refine kz_i2l (M := kt_M605) kX13_worked_c0.2.2.2.2.1 ?_
    refine kz_iload_n (M := kt_M605) kX13_worked_c0.2.2.2.2.2.1 rfl ?_
    refine kz_i2l (M := kt_M605) kX13_worked_c0.2.2.2.2.2.2.1 ?_
    refine kz_ladd (M := kt_M605) kX13_worked_c0.2.2.2.2.2.2.2.1 ?_
    refine kz_cv1 (M := kt_M605) (c := 12) (o := 0) (As := [.long ((((x2).toInt64) + ((x3).toInt64)))]) (rest := []) kX13_worked_c1.1 wl_X13_842 wMv_406 rfl (.inl rfl) rfl (Nat.le_trans (Nat.le_of_ble_eq_true rfl) hL) (Nat.le_of_ble_eq_true rfl) (Nat.le_of_ble_eq_true rfl) h (fun v2 w1 hle h => ?_) (fun _ _ _ h => kzx_no rfl h)
    have h := h hle
    exact kz_iret (M := kt_M605) kX13_worked_c1.2.1 rfl rfl h
  · skip
    refine kz_aload_n (M := kt_M605) kX13_worked_c1.2.2.1 rfl ?_
    refine kz_iload_n (M := kt_M605) kX13_worked_c1.2.2.2.1 rfl ?_
    refine kz_i2l (M := kt_M605) kX13_worked_c1.2.2.2.2.1 ?_
    refine kz_iload_n (M := kt_M605) kX13_worked_c1.2.2.2.2.2.1 rfl ?_
    refine kz_i2l (M := kt_M605) kX13_worked_c1.2.2.2.2.2.2.1 ?_
    refine kz_lsub (M := kt_M605) kX13_worked_c1.2.2.2.2.2.2.2.1 ?_
    refine kz_cv1 (M := kt_M605) (c := 12) (o := 0) (As := [.long ((((x2).toInt64) - ((x3).toInt64)))]) (rest := []) kX13_worked_c2.1 wl_X13_842 wMv_406 rfl (.inl rfl) rfl (Nat.le_trans (Nat.le_of_ble_eq_true rfl) hL) (Nat.le_of_ble_eq_true rfl) (Nat.le_of_ble_eq_true rfl) h (fun v4 w3 hle h => ?_) (fun _ _ _ h => kzx_no rfl h)
    have h := h hle
    exact kz_iret (M := kt_M605) kX13_worked_c2.2.1 rfl rfl h
  · skip
    refine kz_aload_n (M := kt_M605) kX13_worked_c2.2.2.1 rfl ?_
    refine kz_iload_n (M := kt_M605) kX13_worked_c2.2.2.2.1 rfl ?_
    refine kz_i2l (M := kt_M605) kX13_worked_c2.2.2.2.2.1 ?_
    refine kz_iload_n (M := kt_M605) kX13_worked_c2.2.2.2.2.2.1 rfl ?_
    refine kz_i2l (M := kt_M605) kX13_worked_c2.2.2.2.2.2.2.1 ?_
    refine kz_lmul (M := kt_M605) kX13_worked_c2.2.2.2.2.2.2.2.1 ?_
    refine kz_cv1 (M := kt_M605) (c := 12) (o := 0) (As := [.long ((((x2).toInt64) * ((x3).toInt64)))]) (rest := []) kX13_worked_c3.1 wl_X13_842 wMv_406 rfl (.inl rfl) rfl (Nat.le_trans (Nat.le_of_ble_eq_true rfl) hL) (Nat.le_of_ble_eq_true rfl) (Nat.le_of_ble_eq_true rfl) h (fun v6 w5 hle h => ?_) (fun _ _ _ h => kzx_no rfl h)
    have h := h hle
    exact kz_iret (M := kt_M605) kX13_worked_c3.2.1 rfl rfl h
  · skip
    refine kz_iload_n (M := kt_M605) kX13_worked_c3.2.2.1 rfl ?_
    refine kz_if_ne (M := kt_M605) kX13_worked_c3.2.2.2.1 (t := 268) rfl h (fun h => ?_) (fun h => ?_)
    · skip
      refine kz_aload_n (M := kt_M605) kX13_worked_c4.1 rfl ?_
      refine kz_iload_n (M := kt_M605) kX13_worked_c4.2.1 rfl ?_
      refine kz_i2l (M := kt_M605) kX13_worked_c4.2.2.1 ?_
      refine kz_iload_n (M := kt_M605) kX13_worked_c4.2.2.2.1 rfl ?_
      refine kz_i2l (M := kt_M605) kX13_worked_c4.2.2.2.2.1 ?_
      obtain ⟨h0, h⟩ := h
      refine kz_ldiv (M := kt_M605) kX13_worked_c4.2.2.2.2.2.1 h0 ?_
      refine kz_cv1 (M := kt_M605) (c := 12) (o := 0) (As := [.long ((((x2).toInt64) / ((x3).toInt64)))]) (rest := []) kX13_worked_c4.2.2.2.2.2.2.1 wl_X13_842 wMv_406 rfl (.inl rfl) rfl (Nat.le_trans (Nat.le_of_ble_eq_true rfl) hL) (Nat.le_of_ble_eq_true rfl) (Nat.le_of_ble_eq_true rfl) h (fun v8 w7 hle h => ?_) (fun _ _ _ h => kzx_no rfl h)
      have h := h hle
      exact kz_iret (M := kt_M605) kX13_worked_c4.2.2.2.2.2.2.2.1 rfl rfl h
    · skip
      refine kz_aload_n (M := kt_M605) kX13_worked_c3.2.2.2.2.1 rfl ?_
      refine kz_ic (M := kt_M605) 2 kX13_worked_c3.2.2.2.2.2.1 rfl ?_
      refine kz_cvr (M := kt_M605) (c := 12) (o := 0) (As := [.int 2]) (rest := []) kX13_worked_c3.2.2.2.2.2.2.1 wl_X13_839 wMv_408 rfl (.inl rfl) rfl (Nat.le_trans (Nat.le_of_ble_eq_true rfl) hL) (Nat.le_of_ble_eq_true rfl) (Nat.le_of_ble_eq_true rfl) h (fun v10 w9 hle h => ?_) (fun _ _ _ h => kzx_no rfl h)
      have h := h hle
      exact kz_throw (M := kt_M605) (c := 13) (o := 0) kX13_worked_c3.2.2.2.2.2.2.2.1 rfl (.inl rfl) h (fun h => kzx_no rfl h)
  · skip
    refine kz_iload_n (M := kt_M605) kX13_worked_c5.1 rfl ?_
    refine kz_if_ne (M := kt_M605) kX13_worked_c5.2.1 (t := 288) rfl h (fun h => ?_) (fun h => ?_)
    · skip
      refine kz_iload_n (M := kt_M605) kX13_worked_c5.2.2.2.2.2.2.1 rfl ?_
      refine kz_i2l (M := kt_M605) kX13_worked_c5.2.2.2.2.2.2.2.1 ?_
      refine kz_iload_n (M := kt_M605) kX13_worked_c6.1 rfl ?_
      refine kz_i2l (M := kt_M605) kX13_worked_c6.2.1 ?_
      obtain ⟨h0, h⟩ := h
      refine kz_lrem (M := kt_M605) kX13_worked_c6.2.2.1 h0 ?_
      refine kz_l2i (M := kt_M605) kX13_worked_c6.2.2.2.1 ?_
      exact kz_iret (M := kt_M605) kX13_worked_c6.2.2.2.2.1 rfl rfl h
    · skip
      refine kz_aload_n (M := kt_M605) kX13_worked_c5.2.2.1 rfl ?_
      refine kz_ic (M := kt_M605) 2 kX13_worked_c5.2.2.2.1 rfl ?_
      refine kz_cvr (M := kt_M605) (c := 12) (o := 0) (As := [.int 2]) (rest := []) kX13_worked_c5.2.2.2.2.1 wl_X13_839 wMv_408 rfl (.inl rfl) rfl (Nat.le_trans (Nat.le_of_ble_eq_true rfl) hL) (Nat.le_of_ble_eq_true rfl) (Nat.le_of_ble_eq_true rfl) h (fun v12 w11 hle h => ?_) (fun _ _ _ h => kzx_no rfl h)
      have h := h hle
      exact kz_throw (M := kt_M605) (c := 13) (o := 0) kX13_worked_c5.2.2.2.2.2.1 rfl (.inl rfl) h (fun h => kzx_no rfl h)
  · skip
    refine kz_iload_n (M := kt_M605) kX13_worked_c8.2.1 rfl ?_
    refine kz_iload_n (M := kt_M605) kX13_worked_c8.2.2.1 rfl ?_
    refine kz_iand (M := kt_M605) kX13_worked_c8.2.2.2.1 ?_
    exact kz_iret (M := kt_M605) kX13_worked_c8.2.2.2.2.1 rfl rfl h
  · skip
    refine kz_iload_n (M := kt_M605) kX13_worked_c8.2.2.2.2.2.1 rfl ?_
    refine kz_iload_n (M := kt_M605) kX13_worked_c8.2.2.2.2.2.2.1 rfl ?_
    refine kz_ior (M := kt_M605) kX13_worked_c8.2.2.2.2.2.2.2.1 ?_
    exact kz_iret (M := kt_M605) kX13_worked_c9.1 rfl rfl h
  · skip
    refine kz_iload_n (M := kt_M605) kX13_worked_c9.2.1 rfl ?_
    refine kz_iload_n (M := kt_M605) kX13_worked_c9.2.2.1 rfl ?_
    refine kz_ixor (M := kt_M605) kX13_worked_c9.2.2.2.1 ?_
    exact kz_iret (M := kt_M605) kX13_worked_c9.2.2.2.2.1 rfl rfl h
  · skip
    refine kz_iload_n (M := kt_M605) kX13_worked_c9.2.2.2.2.2.1 rfl ?_
    refine kz_if_lt (M := kt_M605) kX13_worked_c9.2.2.2.2.2.2.1 (t := 329) rfl h (fun h => ?_) (fun h => ?_)
    · skip
      exact kz_weak [(0, .ref (w_adr E.2.1 12 0))] ⟨rfl, trivial⟩ rfl (zt_X13_worked_p329 hL  h)
    · skip
      refine kz_iload_n (M := kt_M605) kX13_worked_c9.2.2.2.2.2.2.2.1 rfl ?_
      refine kz_bi (M := kt_M605) 32 kX13_worked_c10.1 rfl ?_
      refine kz_icmp_le (M := kt_M605) kX13_worked_c10.2.1 (t := 336) rfl h (fun h => ?_) (fun h => ?_)
      · skip
        refine kz_iload_n (M := kt_M605) kX13_worked_c10.2.2.2.2.2.2.1 rfl ?_
        refine kz_bi (M := kt_M605) 32 kX13_worked_c10.2.2.2.2.2.2.2.1 rfl ?_
        refine kz_icmp_ne (M := kt_M605) kX13_worked_c11.1 (t := 346) rfl h (fun h => ?_) (fun h => ?_)
        · skip
          refine kz_iload_n (M := kt_M605) kX13_worked_c11.2.2.2.1 rfl ?_
          refine kz_bi (M := kt_M605) 65 kX13_worked_c11.2.2.2.2.1 rfl ?_
          refine kz_icmp_ne (M := kt_M605) kX13_worked_c11.2.2.2.2.2.1 (t := 358) rfl h (fun h => ?_) (fun h => ?_)
          · skip
            refine kz_iload_n (M := kt_M605) kX13_worked_c12.2.2.1 rfl ?_
            refine kz_iload_n (M := kt_M605) kX13_worked_c12.2.2.2.1 rfl ?_
            refine kz_iushr (M := kt_M605) kX13_worked_c12.2.2.2.2.1 ?_
            exact kz_weak [(0, .ref (w_adr E.2.1 12 0))] ⟨rfl, trivial⟩ rfl (zt_X13_worked_p361 hL  h)
          · skip
            refine kz_iload_n (M := kt_M605) kX13_worked_c11.2.2.2.2.2.2.1 rfl ?_
            refine kz_iload_n (M := kt_M605) kX13_worked_c11.2.2.2.2.2.2.2.1 rfl ?_
            refine kz_ishl (M := kt_M605) kX13_worked_c12.1 ?_
            refine kz_goto (M := kt_M605) kX13_worked_c12.2.1 (t := 361) rfl ?_
            exact kz_weak [(0, .ref (w_adr E.2.1 12 0))] ⟨rfl, trivial⟩ rfl (zt_X13_worked_p361 hL  h)
        · skip
          refine kz_ic (M := kt_M605) 0 kX13_worked_c11.2.1 rfl ?_
          refine kz_goto (M := kt_M605) kX13_worked_c11.2.2.1 (t := 361) rfl ?_
          exact kz_weak [(0, .ref (w_adr E.2.1 12 0))] ⟨rfl, trivial⟩ rfl (zt_X13_worked_p361 hL  h)
      · skip
        exact kz_weak [(0, .ref (w_adr E.2.1 12 0))] ⟨rfl, trivial⟩ rfl (zt_X13_worked_p329 hL  h)
  · skip
    refine kz_iload_n (M := kt_M605) kX13_worked_c9.2.2.2.2.2.1 rfl ?_
    refine kz_if_lt (M := kt_M605) kX13_worked_c9.2.2.2.2.2.2.1 (t := 329) rfl h (fun h => ?_) (fun h => ?_)
    · skip
      exact kz_weak [(0, .ref (w_adr E.2.1 12 0))] ⟨rfl, trivial⟩ rfl (zt_X13_worked_p329 hL  h)
    · skip
      refine kz_iload_n (M := kt_M605) kX13_worked_c9.2.2.2.2.2.2.2.1 rfl ?_
      refine kz_bi (M := kt_M605) 32 kX13_worked_c10.1 rfl ?_
      refine kz_icmp_le (M := kt_M605) kX13_worked_c10.2.1 (t := 336) rfl h (fun h => ?_) (fun h => ?_)
      · skip
        refine kz_iload_n (M := kt_M605) kX13_worked_c10.2.2.2.2.2.2.1 rfl ?_
        refine kz_bi (M := kt_M605) 32 kX13_worked_c10.2.2.2.2.2.2.2.1 rfl ?_
        refine kz_icmp_ne (M := kt_M605) kX13_worked_c11.1 (t := 346) rfl h (fun h => ?_) (fun h => ?_)
        · skip
          refine kz_iload_n (M := kt_M605) kX13_worked_c11.2.2.2.1 rfl ?_
          refine kz_bi (M := kt_M605) 65 kX13_worked_c11.2.2.2.2.1 rfl ?_
          refine kz_icmp_ne (M := kt_M605) kX13_worked_c11.2.2.2.2.2.1 (t := 358) rfl h (fun h => ?_) (fun h => ?_)
          · skip
            refine kz_iload_n (M := kt_M605) kX13_worked_c12.2.2.1 rfl ?_
            refine kz_iload_n (M := kt_M605) kX13_worked_c12.2.2.2.1 rfl ?_
            refine kz_iushr (M := kt_M605) kX13_worked_c12.2.2.2.2.1 ?_
            exact kz_weak [(0, .ref (w_adr E.2.1 12 0))] ⟨rfl, trivial⟩ rfl (zt_X13_worked_p361 hL  h)
          · skip
            refine kz_iload_n (M := kt_M605) kX13_worked_c11.2.2.2.2.2.2.1 rfl ?_
            refine kz_iload_n (M := kt_M605) kX13_worked_c11.2.2.2.2.2.2.2.1 rfl ?_
            refine kz_ishl (M := kt_M605) kX13_worked_c12.1 ?_
            refine kz_goto (M := kt_M605) kX13_worked_c12.2.1 (t := 361) rfl ?_
            exact kz_weak [(0, .ref (w_adr E.2.1 12 0))] ⟨rfl, trivial⟩ rfl (zt_X13_worked_p361 hL  h)
        · skip
          refine kz_ic (M := kt_M605) 0 kX13_worked_c11.2.1 rfl ?_
          refine kz_goto (M := kt_M605) kX13_worked_c11.2.2.1 (t := 361) rfl ?_
          exact kz_weak [(0, .ref (w_adr E.2.1 12 0))] ⟨rfl, trivial⟩ rfl (zt_X13_worked_p361 hL  h)
      · skip
        exact kz_weak [(0, .ref (w_adr E.2.1 12 0))] ⟨rfl, trivial⟩ rfl (zt_X13_worked_p329 hL  h)
  · skip
    refine kz_iload_n (M := kt_M605) kX13_worked_c18.1 rfl ?_
    refine kz_iload_n (M := kt_M605) kX13_worked_c18.2.1 rfl ?_
    refine kz_isub (M := kt_M605) kX13_worked_c18.2.2.1 ?_
    refine kz_if_le (M := kt_M605) kX13_worked_c18.2.2.2.1 (t := 438) rfl h (fun h => ?_) (fun h => ?_)
    · skip
      refine kz_ic (M := kt_M605) 0 kX13_worked_c18.2.2.2.2.2.2.1 rfl ?_
      exact kz_weak [(0, .ref (w_adr E.2.1 12 0))] ⟨rfl, trivial⟩ rfl (zt_X13_worked_p439 hL  h)
    · skip
      refine kz_ic (M := kt_M605) 1 kX13_worked_c18.2.2.2.2.1 rfl ?_
      refine kz_goto (M := kt_M605) kX13_worked_c18.2.2.2.2.2.1 (t := 439) rfl ?_
      exact kz_weak [(0, .ref (w_adr E.2.1 12 0))] ⟨rfl, trivial⟩ rfl (zt_X13_worked_p439 hL  h)
def zL_X13_constant_p232 (E : zE) (L : Nat) (Q : kx_Rs → wS → Prop) (x1 : Int32) (x2 : Int32) (x3 : Int32) (w : wS) : Prop := kzE E L kt_M377 232 [(0, .ref (w_adr E.2.1 12 0)), (1, .int x1), (2, .int x2), (3, .int x3)] [] w Q
def zb_X13_constant_p347 (E : zE) (L : Nat) (Q : kx_Rs → wS → Prop) (y0 : Int32) (w : wS) : Prop := Q (.inl (some (.int y0))) w
theorem zt_X13_constant_p347 {E : zE} {L : Nat} {Q : kx_Rs → wS → Prop} {y0 : Int32} {w : wS} (hL : 24 ≤ L) (h : zb_X13_constant_p347 E L Q y0 w) : kzE E L kt_M377 347 [(0, .ref (w_adr E.2.1 12 0))] [.int y0] w Q := by
  unfold zb_X13_constant_p347 at h
  exact kz_iret (M := kt_M377) kX13_constant_c20.2.2.2.2.2.1 rfl rfl h
def zb_X13_constant_p313 (E : zE) (L : Nat) (Q : kx_Rs → wS → Prop) (y0 : Int32) (w : wS) : Prop := Q (.inl (some (.int y0))) w
theorem zt_X13_constant_p313 {E : zE} {L : Nat} {Q : kx_Rs → wS → Prop} {y0 : Int32} {w : wS} (hL : 24 ≤ L) (h : zb_X13_constant_p313 E L Q y0 w) : kzE E L kt_M377 313 [(0, .ref (w_adr E.2.1 12 0))] [.int y0] w Q := by
  unfold zb_X13_constant_p313 at h
  exact kz_iret (M := kt_M377) kX13_constant_c18.1 rfl rfl h
def zb_X13_constant_p293 (E : zE) (L : Nat) (Q : kx_Rs → wS → Prop) (x1 : Int32) (x3 : Int32) (y0 : Int32) (w : wS) : Prop := (kx_inb x3 (w_n w 12 0 32) = true ∧ zL_X13_constant_p232 E L Q x1 y0 (w_a w 12 0 32 (x3).toNatClampNeg) w)
theorem zt_X13_constant_p293 {E : zE} {L : Nat} {Q : kx_Rs → wS → Prop} {x1 : Int32} {x3 : Int32} {y0 : Int32} {w : wS} (hL : 24 ≤ L) (h : zb_X13_constant_p293 E L Q x1 x3 y0 w) : kzE E L kt_M377 293 [(0, .ref (w_adr E.2.1 12 0)), (1, .int x1), (3, .int x3)] [.int y0] w Q := by
  unfold zb_X13_constant_p293 at h
  refine kz_sti_n (M := kt_M377) [(0, .ref (w_adr E.2.1 12 0)), (1, .int x1), (3, .int x3)] kX13_constant_c16.2.2.2.2.1 (Nat.le_of_ble_eq_true rfl) ⟨⟨rfl, rfl, .inl rfl⟩, ⟨⟨rfl, rfl, .inr rfl⟩, ⟨⟨rfl, rfl, .inl rfl⟩, trivial⟩⟩⟩ rfl ?_
  refine kz_aload_n (M := kt_M377) kX13_constant_c16.2.2.2.2.2.1 rfl ?_
  refine kz_gfc (M := kt_M377) (x := 4104) (c := 12) (o := 0) kX13_constant_c16.2.2.2.2.2.2.1 wf_X13_205 (.inl rfl) ?_
  refine kz_iload_n (M := kt_M377) kX13_constant_c16.2.2.2.2.2.2.2.1 rfl ?_
  refine kz_iald (M := kt_M377) (c := 12) (o := 0) (k := 32) (a := (E.2.1 4104)) kX13_constant_c17.1 ow_12_0_32 oa_12_0_32 ot_0 h (fun h => ?_)
  refine kz_sti_n (M := kt_M377) [(0, .ref (w_adr E.2.1 12 0)), (1, .int x1), (2, .int y0)] kX13_constant_c17.2.1 (Nat.le_of_ble_eq_true rfl) ⟨⟨rfl, rfl, .inl rfl⟩, ⟨⟨rfl, rfl, .inl rfl⟩, ⟨⟨rfl, rfl, .inr rfl⟩, trivial⟩⟩⟩ rfl ?_
  refine kz_goto (M := kt_M377) kX13_constant_c17.2.2.1 (t := 232) rfl ?_
  exact kz_weak [(0, .ref (w_adr E.2.1 12 0)), (1, .int x1), (2, .int y0), (3, .int (w_a w 12 0 32 (x3).toNatClampNeg))] ⟨rfl, ⟨rfl, ⟨rfl, ⟨rfl, trivial⟩⟩⟩⟩ rfl h
def zb_X13_constant_p288 (E : zE) (L : Nat) (Q : kx_Rs → wS → Prop) (x1 : Int32) (x3 : Int32) (w : wS) : Prop := zb_X13_constant_p293 E L Q x1 x3 1 w
theorem zt_X13_constant_p288 {E : zE} {L : Nat} {Q : kx_Rs → wS → Prop} {x1 : Int32} {x3 : Int32} {w : wS} (hL : 24 ≤ L) (h : zb_X13_constant_p288 E L Q x1 x3 w) : kzE E L kt_M377 288 [(0, .ref (w_adr E.2.1 12 0)), (1, .int x1), (3, .int x3)] [] w Q := by
  unfold zb_X13_constant_p288 at h
  refine kz_ic (M := kt_M377) 1 kX13_constant_c16.2.1 rfl ?_
  refine kz_goto (M := kt_M377) kX13_constant_c16.2.2.1 (t := 293) rfl ?_
  exact kz_weak [(0, .ref (w_adr E.2.1 12 0)), (1, .int x1), (3, .int x3)] ⟨rfl, ⟨rfl, ⟨rfl, trivial⟩⟩⟩ rfl (zt_X13_constant_p293 hL  h)
def zb_X13_constant_p275 (E : zE) (L : Nat) (Q : kx_Rs → wS → Prop) (x1 : Int32) (x3 : Int32) (w : wS) : Prop := zb_X13_constant_p293 E L Q x1 x3 0 w
theorem zt_X13_constant_p275 {E : zE} {L : Nat} {Q : kx_Rs → wS → Prop} {x1 : Int32} {x3 : Int32} {w : wS} (hL : 24 ≤ L) (h : zb_X13_constant_p275 E L Q x1 x3 w) : kzE E L kt_M377 275 [(0, .ref (w_adr E.2.1 12 0)), (1, .int x1), (3, .int x3)] [] w Q := by
  unfold zb_X13_constant_p275 at h
  refine kz_ic (M := kt_M377) 0 kX13_constant_c15.2.2.2.1 rfl ?_
  refine kz_goto (M := kt_M377) kX13_constant_c15.2.2.2.2.1 (t := 293) rfl ?_
  exact kz_weak [(0, .ref (w_adr E.2.1 12 0)), (1, .int x1), (3, .int x3)] ⟨rfl, ⟨rfl, ⟨rfl, trivial⟩⟩⟩ rfl (zt_X13_constant_p293 hL  h)
def zb_X13_constant_p250 (E : zE) (L : Nat) (Q : kx_Rs → wS → Prop) (x1 : Int32) (x2 : Int32) (x3 : Int32) (y0 : Int32) (w : wS) : Prop := (kx_inb x1 (w_n w 12 0 29) = true ∧ (if ¬ w_a w 12 0 29 (x1).toNatClampNeg = 2 then (if ¬ x2 = 0 then zb_X13_constant_p288 E L Q x1 x3 w else (if y0 = 0 then zb_X13_constant_p293 E L Q x1 x3 0 w else zb_X13_constant_p288 E L Q x1 x3 w)) else (if x2 = 0 then zb_X13_constant_p275 E L Q x1 x3 w else (if y0 = 0 then zb_X13_constant_p275 E L Q x1 x3 w else zb_X13_constant_p293 E L Q x1 x3 1 w))))
theorem zt_X13_constant_p250 {E : zE} {L : Nat} {Q : kx_Rs → wS → Prop} {x1 : Int32} {x2 : Int32} {x3 : Int32} {y0 : Int32} {w : wS} (hL : 24 ≤ L) (h : zb_X13_constant_p250 E L Q x1 x2 x3 y0 w) : kzE E L kt_M377 250 [(0, .ref (w_adr E.2.1 12 0)), (1, .int x1), (2, .int x2), (3, .int x3)] [.int y0] w Q := by
  unfold zb_X13_constant_p250 at h
  refine kz_sti (M := kt_M377) [(0, .ref (w_adr E.2.1 12 0)), (1, .int x1), (2, .int x2), (3, .int x3)] kX13_constant_c13.2.2.2.2.2.2.1 (Nat.le_of_ble_eq_true rfl) ⟨⟨rfl, rfl, .inl rfl⟩, ⟨⟨rfl, rfl, .inl rfl⟩, ⟨⟨rfl, rfl, .inl rfl⟩, ⟨⟨rfl, rfl, .inr rfl⟩, trivial⟩⟩⟩⟩ rfl ?_
  refine kz_aload_n (M := kt_M377) kX13_constant_c13.2.2.2.2.2.2.2.1 rfl ?_
  refine kz_gfc (M := kt_M377) (x := 4101) (c := 12) (o := 0) kX13_constant_c14.1 wf_X13_196 (.inl rfl) ?_
  refine kz_iload_n (M := kt_M377) kX13_constant_c14.2.1 rfl ?_
  refine kz_iald (M := kt_M377) (c := 12) (o := 0) (k := 29) (a := (E.2.1 4101)) kX13_constant_c14.2.2.1 ow_12_0_29 oa_12_0_29 ot_0 h (fun h => ?_)
  refine kz_ic (M := kt_M377) 2 kX13_constant_c14.2.2.2.1 rfl ?_
  refine kz_icmp_ne (M := kt_M377) kX13_constant_c14.2.2.2.2.1 (t := 279) rfl h (fun h => ?_) (fun h => ?_)
  · skip
    refine kz_iload_n (M := kt_M377) kX13_constant_c15.2.2.2.2.2.1 rfl ?_
    refine kz_if_ne (M := kt_M377) kX13_constant_c15.2.2.2.2.2.2.1 (t := 288) rfl h (fun h => ?_) (fun h => ?_)
    · skip
      exact kz_weak [(0, .ref (w_adr E.2.1 12 0)), (1, .int x1), (3, .int x3)] ⟨rfl, ⟨rfl, ⟨rfl, trivial⟩⟩⟩ rfl (zt_X13_constant_p288 hL  h)
    · skip
      refine kz_iload (M := kt_M377) kX13_constant_c15.2.2.2.2.2.2.2.1 rfl ?_
      refine kz_if_eq (M := kt_M377) kX13_constant_c16.1 (t := 292) rfl h (fun h => ?_) (fun h => ?_)
      · skip
        refine kz_ic (M := kt_M377) 0 kX13_constant_c16.2.2.2.1 rfl ?_
        exact kz_weak [(0, .ref (w_adr E.2.1 12 0)), (1, .int x1), (3, .int x3)] ⟨rfl, ⟨rfl, ⟨rfl, trivial⟩⟩⟩ rfl (zt_X13_constant_p293 hL  h)
      · skip
        exact kz_weak [(0, .ref (w_adr E.2.1 12 0)), (1, .int x1), (3, .int x3)] ⟨rfl, ⟨rfl, ⟨rfl, trivial⟩⟩⟩ rfl (zt_X13_constant_p288 hL  h)
  · skip
    refine kz_iload_n (M := kt_M377) kX13_constant_c14.2.2.2.2.2.1 rfl ?_
    refine kz_if_eq (M := kt_M377) kX13_constant_c14.2.2.2.2.2.2.1 (t := 275) rfl h (fun h => ?_) (fun h => ?_)
    · skip
      exact kz_weak [(0, .ref (w_adr E.2.1 12 0)), (1, .int x1), (3, .int x3)] ⟨rfl, ⟨rfl, ⟨rfl, trivial⟩⟩⟩ rfl (zt_X13_constant_p275 hL  h)
    · skip
      refine kz_iload (M := kt_M377) kX13_constant_c14.2.2.2.2.2.2.2.1 rfl ?_
      refine kz_if_eq (M := kt_M377) kX13_constant_c15.1 (t := 275) rfl h (fun h => ?_) (fun h => ?_)
      · skip
        exact kz_weak [(0, .ref (w_adr E.2.1 12 0)), (1, .int x1), (3, .int x3)] ⟨rfl, ⟨rfl, ⟨rfl, trivial⟩⟩⟩ rfl (zt_X13_constant_p275 hL  h)
      · skip
        refine kz_ic (M := kt_M377) 1 kX13_constant_c15.2.1 rfl ?_
        refine kz_goto (M := kt_M377) kX13_constant_c15.2.2.1 (t := 293) rfl ?_
        exact kz_weak [(0, .ref (w_adr E.2.1 12 0)), (1, .int x1), (3, .int x3)] ⟨rfl, ⟨rfl, ⟨rfl, trivial⟩⟩⟩ rfl (zt_X13_constant_p293 hL  h)
def zb_X13_constant_p232 (E : zE) (L : Nat) (Q : kx_Rs → wS → Prop) (x1 : Int32) (x2 : Int32) (x3 : Int32) (w : wS) : Prop := (if x3 < 0 then (if x2 = 0 then zb_X13_constant_p313 E L Q 0 w else zb_X13_constant_p313 E L Q 1 w) else zw E (L - 24) kt_M377 [.ref (w_adr E.2.1 12 0), .int x3] w (wk1 (fun v2 w1 => wle w w1 → (if ¬ v2 = 1 then zb_X13_constant_p250 E L Q x1 x2 x3 0 w1 else zb_X13_constant_p250 E L Q x1 x2 x3 1 w1)) (fun e w => Q (.inr e) w)))
theorem zt_X13_constant_p232 {E : zE} {L : Nat} {Q : kx_Rs → wS → Prop} {x1 : Int32} {x2 : Int32} {x3 : Int32} {w : wS} (hL : 24 ≤ L) (h : zb_X13_constant_p232 E L Q x1 x2 x3 w) : kzE E L kt_M377 232 [(0, .ref (w_adr E.2.1 12 0)), (1, .int x1), (2, .int x2), (3, .int x3)] [] w Q := by
  unfold zb_X13_constant_p232 at h
  refine kz_iload_n (M := kt_M377) kX13_constant_c12.2.2.2.2.1 rfl ?_
  refine kz_if_lt (M := kt_M377) kX13_constant_c12.2.2.2.2.2.1 (t := 304) rfl h (fun h => ?_) (fun h => ?_)
  · skip
    refine kz_iload_n (M := kt_M377) kX13_constant_c17.2.2.2.1 rfl ?_
    refine kz_if_eq (M := kt_M377) kX13_constant_c17.2.2.2.2.1 (t := 312) rfl h (fun h => ?_) (fun h => ?_)
    · skip
      refine kz_ic (M := kt_M377) 0 kX13_constant_c17.2.2.2.2.2.2.2.1 rfl ?_
      exact kz_weak [(0, .ref (w_adr E.2.1 12 0))] ⟨rfl, trivial⟩ rfl (zt_X13_constant_p313 hL  h)
    · skip
      refine kz_ic (M := kt_M377) 1 kX13_constant_c17.2.2.2.2.2.1 rfl ?_
      refine kz_goto (M := kt_M377) kX13_constant_c17.2.2.2.2.2.2.1 (t := 313) rfl ?_
      exact kz_weak [(0, .ref (w_adr E.2.1 12 0))] ⟨rfl, trivial⟩ rfl (zt_X13_constant_p313 hL  h)
  · skip
    refine kz_aload_n (M := kt_M377) kX13_constant_c12.2.2.2.2.2.2.1 rfl ?_
    refine kz_iload_n (M := kt_M377) kX13_constant_c12.2.2.2.2.2.2.2.1 rfl ?_
    refine kz_cv1 (M := kt_M377) (c := 12) (o := 0) (As := [.int x3]) (rest := []) kX13_constant_c13.1 wl_X13_824 wMv_377 rfl (.inl rfl) rfl (Nat.le_trans (Nat.le_of_ble_eq_true rfl) hL) (Nat.le_of_ble_eq_true rfl) (Nat.le_of_ble_eq_true rfl) h (fun v2 w1 hle h => ?_) (fun _ _ _ h => kzx_no rfl h)
    have h := h hle
    refine kz_ic (M := kt_M377) 1 kX13_constant_c13.2.1 rfl ?_
    refine kz_icmp_ne (M := kt_M377) kX13_constant_c13.2.2.1 (t := 249) rfl h (fun h => ?_) (fun h => ?_)
    · skip
      refine kz_ic (M := kt_M377) 0 kX13_constant_c13.2.2.2.2.2.1 rfl ?_
      exact kz_weak [(0, .ref (w_adr E.2.1 12 0)), (1, .int x1), (2, .int x2), (3, .int x3)] ⟨rfl, ⟨rfl, ⟨rfl, ⟨rfl, trivial⟩⟩⟩⟩ rfl (zt_X13_constant_p250 hL  h)
    · skip
      refine kz_ic (M := kt_M377) 1 kX13_constant_c13.2.2.2.1 rfl ?_
      refine kz_goto (M := kt_M377) kX13_constant_c13.2.2.2.2.1 (t := 250) rfl ?_
      exact kz_weak [(0, .ref (w_adr E.2.1 12 0)), (1, .int x1), (2, .int x2), (3, .int x3)] ⟨rfl, ⟨rfl, ⟨rfl, ⟨rfl, trivial⟩⟩⟩⟩ rfl (zt_X13_constant_p250 hL  h)
def zb_X13_constant_p224 (E : zE) (L : Nat) (Q : kx_Rs → wS → Prop) (x1 : Int32) (y0 : Int32) (w : wS) : Prop := (kx_inb x1 (w_n w 12 0 28) = true ∧ zL_X13_constant_p232 E L Q x1 y0 (w_a w 12 0 28 (x1).toNatClampNeg) w)
theorem zt_X13_constant_p224 {E : zE} {L : Nat} {Q : kx_Rs → wS → Prop} {x1 : Int32} {y0 : Int32} {w : wS} (hL : 24 ≤ L) (h : zb_X13_constant_p224 E L Q x1 y0 w) : kzE E L kt_M377 224 [(0, .ref (w_adr E.2.1 12 0)), (1, .int x1)] [.int y0] w Q := by
  unfold zb_X13_constant_p224 at h
  refine kz_sti_n (M := kt_M377) [(0, .ref (w_adr E.2.1 12 0)), (1, .int x1)] kX13_constant_c11.2.2.2.2.2.2.1 (Nat.le_of_ble_eq_true rfl) ⟨⟨rfl, rfl, .inl rfl⟩, ⟨⟨rfl, rfl, .inr rfl⟩, trivial⟩⟩ rfl ?_
  refine kz_aload_n (M := kt_M377) kX13_constant_c11.2.2.2.2.2.2.2.1 rfl ?_
  refine kz_gfc (M := kt_M377) (x := 4100) (c := 12) (o := 0) kX13_constant_c12.1 wf_X13_193 (.inl rfl) ?_
  refine kz_iload_n (M := kt_M377) kX13_constant_c12.2.1 rfl ?_
  refine kz_iald (M := kt_M377) (c := 12) (o := 0) (k := 28) (a := (E.2.1 4100)) kX13_constant_c12.2.2.1 ow_12_0_28 oa_12_0_28 ot_0 h (fun h => ?_)
  refine kz_sti_n (M := kt_M377) [(0, .ref (w_adr E.2.1 12 0)), (1, .int x1), (2, .int y0)] kX13_constant_c12.2.2.2.1 (Nat.le_of_ble_eq_true rfl) ⟨⟨rfl, rfl, .inl rfl⟩, ⟨⟨rfl, rfl, .inl rfl⟩, ⟨⟨rfl, rfl, .inr rfl⟩, trivial⟩⟩⟩ rfl ?_
  exact kz_weak [(0, .ref (w_adr E.2.1 12 0)), (1, .int x1), (2, .int y0), (3, .int (w_a w 12 0 28 (x1).toNatClampNeg))] ⟨rfl, ⟨rfl, ⟨rfl, ⟨rfl, trivial⟩⟩⟩⟩ rfl h
def zb_X13_constant_p175 (E : zE) (L : Nat) (Q : kx_Rs → wS → Prop) (y0 : Int32) (w : wS) : Prop := Q (.inl (some (.int y0))) w
theorem zt_X13_constant_p175 {E : zE} {L : Nat} {Q : kx_Rs → wS → Prop} {y0 : Int32} {w : wS} (hL : 24 ≤ L) (h : zb_X13_constant_p175 E L Q y0 w) : kzE E L kt_M377 175 [(0, .ref (w_adr E.2.1 12 0))] [.int y0] w Q := by
  unfold zb_X13_constant_p175 at h
  exact kz_iret (M := kt_M377) kX13_constant_c7.2.2.2.2.2.2.2.1 rfl rfl h
def zb_X13_constant_p0 (E : zE) (L : Nat) (Q : kx_Rs → wS → Prop) (x1 : Int32) (w : wS) : Prop := (kx_inb x1 (w_n w 12 0 26) = true ∧ (if w_a w 12 0 26 (x1).toNatClampNeg = 50 then (kx_inb x1 (w_n w 12 0 28) = true ∧ Q (.inl (some (.int (w_a w 12 0 28 (x1).toNatClampNeg)))) w) else (if w_a w 12 0 26 (x1).toNatClampNeg = 51 then (kx_inb x1 (w_n w 12 0 28) = true ∧ Q (.inl (some (.int (w_a w 12 0 28 (x1).toNatClampNeg)))) w) else (if w_a w 12 0 26 (x1).toNatClampNeg = 53 then Q (.inl (some (.int 1))) w else (if w_a w 12 0 26 (x1).toNatClampNeg = 54 then Q (.inl (some (.int 0))) w else (if w_a w 12 0 26 (x1).toNatClampNeg = 55 then Q (.inl (some (.int 2147483647))) w else (if w_a w 12 0 26 (x1).toNatClampNeg = 56 then Q (.inl (some (.int (-2147483648)))) w else (if w_a w 12 0 26 (x1).toNatClampNeg = 57 then (kx_inb x1 (w_n w 12 0 28) = true ∧ zw E (L - 24) kt_M377 [.ref (w_adr E.2.1 12 0), .int (w_a w 12 0 28 (x1).toNatClampNeg)] w (wk1 (fun v2 w1 => wle w w1 → (kx_inb x1 (w_n w1 12 0 29) = true ∧ zw E (L - 22) kt_M378 [.ref (w_adr E.2.1 12 0), .int v2, .int (w_a w1 12 0 29 (x1).toNatClampNeg)] w1 (wk1 (fun v4 w3 => wle w1 w3 → Q (.inl (some (.int v4))) w3) (fun e w => Q (.inr e) w)))) (fun e w => Q (.inr e) w))) else (if w_a w 12 0 26 (x1).toNatClampNeg = 58 then (kx_inb x1 (w_n w 12 0 28) = true ∧ zw E (L - 24) kt_M377 [.ref (w_adr E.2.1 12 0), .int (w_a w 12 0 28 (x1).toNatClampNeg)] w (wk1 (fun v6 w5 => wle w w5 → Q (.inl (some (.int v6))) w5) (fun e w => Q (.inr e) w))) else (if w_a w 12 0 26 (x1).toNatClampNeg = 62 then (kx_inb x1 (w_n w 12 0 29) = true ∧ (if ¬ w_a w 12 0 29 (x1).toNatClampNeg = 27 then (kx_inb x1 (w_n w 12 0 29) = true ∧ (kx_inb x1 (w_n w 12 0 28) = true ∧ zw E (L - 24) kt_M377 [.ref (w_adr E.2.1 12 0), .int (w_a w 12 0 28 (x1).toNatClampNeg)] w (wk1 (fun v8 w7 => wle w w7 → zw E (L - 22) kt_M536 [.ref (w_adr E.2.1 12 0), .int (w_a w 12 0 29 (x1).toNatClampNeg), .int v8] w7 (wk1 (fun v10 w9 => wle w7 w9 → zb_X13_constant_p175 E L Q v10 w9) (fun e w => Q (.inr e) w))) (fun e w => Q (.inr e) w)))) else (kx_inb x1 (w_n w 12 0 28) = true ∧ zw E (L - 23) kt_M465 [.ref (w_adr E.2.1 12 0), .int (w_a w 12 0 28 (x1).toNatClampNeg)] w (wk1 (fun v12 w11 => wle w w11 → zb_X13_constant_p175 E L Q v12 w11) (fun e w => Q (.inr e) w))))) else (if w_a w 12 0 26 (x1).toNatClampNeg = 63 then (kx_inb x1 (w_n w 12 0 28) = true ∧ zw E (L - 24) kt_M377 [.ref (w_adr E.2.1 12 0), .int (w_a w 12 0 28 (x1).toNatClampNeg)] w (wk1 (fun v14 w13 => wle w w13 → (kx_inb x1 (w_n w13 12 0 29) = true ∧ (kx_inb x1 (w_n w13 12 0 30) = true ∧ zw E (L - 24) kt_M377 [.ref (w_adr E.2.1 12 0), .int (w_a w13 12 0 30 (x1).toNatClampNeg)] w13 (wk1 (fun v16 w15 => wle w13 w15 → zw E (L - 23) kt_M605 [.ref (w_adr E.2.1 12 0), .int (w_a w13 12 0 29 (x1).toNatClampNeg), .int v14, .int v16] w15 (wk1 (fun v18 w17 => wle w15 w17 → Q (.inl (some (.int v18))) w17) (fun e w => Q (.inr e) w))) (fun e w => Q (.inr e) w))))) (fun e w => Q (.inr e) w))) else (if w_a w 12 0 26 (x1).toNatClampNeg = 64 then (kx_inb x1 (w_n w 12 0 29) = true ∧ (if ¬ w_a w 12 0 29 (x1).toNatClampNeg = 2 then zb_X13_constant_p224 E L Q x1 0 w else zb_X13_constant_p224 E L Q x1 1 w)) else (kx_inb x1 (w_n w 12 0 31) = true ∧ (kx_inb (w_a w 12 0 31 (x1).toNatClampNeg) (w_n w 12 0 46) = true ∧ (if ¬ w_a w 12 0 46 (w_a w 12 0 31 (x1).toNatClampNeg).toNatClampNeg = 9 then (kx_inb (w_a w 12 0 31 (x1).toNatClampNeg) (w_n w 12 0 69) = true ∧ zb_X13_constant_p347 E L Q (w_a w 12 0 69 (w_a w 12 0 31 (x1).toNatClampNeg).toNatClampNeg) w) else (kx_inb (w_a w 12 0 31 (x1).toNatClampNeg) (w_n w 12 0 70) = true ∧ zb_X13_constant_p347 E L Q (w_a w 12 0 70 (w_a w 12 0 31 (x1).toNatClampNeg).toNatClampNeg) w))))))))))))))))
theorem zt_X13_constant_p0 {E : zE} {L : Nat} {Q : kx_Rs → wS → Prop} {x1 : Int32} {w : wS} (hL : 24 ≤ L) (h : zb_X13_constant_p0 E L Q x1 w) : kzE E L kt_M377 0 [(0, .ref (w_adr E.2.1 12 0)), (1, .int x1)] [] w Q := by
  unfold zb_X13_constant_p0 at h
  refine kz_aload_n (M := kt_M377) kX13_constant_c0.1 rfl ?_
  refine kz_gfc (M := kt_M377) (x := 4098) (c := 12) (o := 0) kX13_constant_c0.2.1 wf_X13_187 (.inl rfl) ?_
  refine kz_iload_n (M := kt_M377) kX13_constant_c0.2.2.1 rfl ?_
  refine kz_iald (M := kt_M377) (c := 12) (o := 0) (k := 26) (a := (E.2.1 4098)) kX13_constant_c0.2.2.2.1 ow_12_0_26 oa_12_0_26 ot_0 h (fun h => ?_)
  refine kz_tsw (M := kt_M377) [(50, 80), (51, 80), (53, 87), (54, 89), (55, 91), (56, 95), (57, 99), (58, 120), (62, 131), (63, 176), (64, 209)] [_, _, _, _, _, _, _, _, _, _, _] 314 dX13_constant_p6 (by decide +kernel) h ⟨fun h => ?_, fun h => ?_, fun h => ?_, fun h => ?_, fun h => ?_, fun h => ?_, fun h => ?_, fun h => ?_, fun h => ?_, fun h => ?_, fun h => ?_, trivial⟩ (fun h => ?_)
  · skip
    refine kz_aload_n (M := kt_M377) kX13_constant_c0.2.2.2.2.2.1 rfl ?_
    refine kz_gfc (M := kt_M377) (x := 4100) (c := 12) (o := 0) kX13_constant_c0.2.2.2.2.2.2.1 wf_X13_193 (.inl rfl) ?_
    refine kz_iload_n (M := kt_M377) kX13_constant_c0.2.2.2.2.2.2.2.1 rfl ?_
    refine kz_iald (M := kt_M377) (c := 12) (o := 0) (k := 28) (a := (E.2.1 4100)) kX13_constant_c1.1 ow_12_0_28 oa_12_0_28 ot_0 h (fun h => ?_)
    exact kz_iret (M := kt_M377) kX13_constant_c1.2.1 rfl rfl h
  · skip
    refine kz_aload_n (M := kt_M377) kX13_constant_c0.2.2.2.2.2.1 rfl ?_
    refine kz_gfc (M := kt_M377) (x := 4100) (c := 12) (o := 0) kX13_constant_c0.2.2.2.2.2.2.1 wf_X13_193 (.inl rfl) ?_
    refine kz_iload_n (M := kt_M377) kX13_constant_c0.2.2.2.2.2.2.2.1 rfl ?_
    refine kz_iald (M := kt_M377) (c := 12) (o := 0) (k := 28) (a := (E.2.1 4100)) kX13_constant_c1.1 ow_12_0_28 oa_12_0_28 ot_0 h (fun h => ?_)
    exact kz_iret (M := kt_M377) kX13_constant_c1.2.1 rfl rfl h
  · skip
    refine kz_ic (M := kt_M377) 1 kX13_constant_c1.2.2.1 rfl ?_
    exact kz_iret (M := kt_M377) kX13_constant_c1.2.2.2.1 rfl rfl h
  · skip
    refine kz_ic (M := kt_M377) 0 kX13_constant_c1.2.2.2.2.1 rfl ?_
    exact kz_iret (M := kt_M377) kX13_constant_c1.2.2.2.2.2.1 rfl rfl h
  · skip
    refine kz_ldcw (M := kt_M377) (x := 2147483647) kX13_constant_c1.2.2.2.2.2.2.1 (zc_X13_822) ?_
    exact kz_iret (M := kt_M377) kX13_constant_c1.2.2.2.2.2.2.2.1 rfl rfl h
  · skip
    refine kz_ldcw (M := kt_M377) (x := (-2147483648)) kX13_constant_c2.1 (zc_X13_823) ?_
    exact kz_iret (M := kt_M377) kX13_constant_c2.2.1 rfl rfl h
  · skip
    refine kz_aload_n (M := kt_M377) kX13_constant_c2.2.2.1 rfl ?_
    refine kz_aload_n (M := kt_M377) kX13_constant_c2.2.2.2.1 rfl ?_
    refine kz_aload_n (M := kt_M377) kX13_constant_c2.2.2.2.2.1 rfl ?_
    refine kz_gfc (M := kt_M377) (x := 4100) (c := 12) (o := 0) kX13_constant_c2.2.2.2.2.2.1 wf_X13_193 (.inl rfl) ?_
    refine kz_iload_n (M := kt_M377) kX13_constant_c2.2.2.2.2.2.2.1 rfl ?_
    refine kz_iald (M := kt_M377) (c := 12) (o := 0) (k := 28) (a := (E.2.1 4100)) kX13_constant_c2.2.2.2.2.2.2.2.1 ow_12_0_28 oa_12_0_28 ot_0 h (fun h => ?_)
    refine kz_cv1 (M := kt_M377) (c := 12) (o := 0) (As := [.int (w_a w 12 0 28 (x1).toNatClampNeg)]) (rest := [.ref (w_adr E.2.1 12 0)]) kX13_constant_c3.1 wl_X13_824 wMv_377 rfl (.inl rfl) rfl (Nat.le_trans (Nat.le_of_ble_eq_true rfl) hL) (Nat.le_of_ble_eq_true rfl) (Nat.le_of_ble_eq_true rfl) h (fun v2 w1 hle h => ?_) (fun _ _ _ h => kzx_no rfl h)
    have h := h hle
    refine kz_aload_n (M := kt_M377) kX13_constant_c3.2.1 rfl ?_
    refine kz_gfc (M := kt_M377) (x := 4101) (c := 12) (o := 0) kX13_constant_c3.2.2.1 wf_X13_196 (.inl rfl) ?_
    refine kz_iload_n (M := kt_M377) kX13_constant_c3.2.2.2.1 rfl ?_
    refine kz_iald (M := kt_M377) (c := 12) (o := 0) (k := 29) (a := (E.2.1 4101)) kX13_constant_c3.2.2.2.2.1 ow_12_0_29 oa_12_0_29 ot_0 h (fun h => ?_)
    refine kz_cv1 (M := kt_M377) (c := 12) (o := 0) (As := [.int v2, .int (w_a w1 12 0 29 (x1).toNatClampNeg)]) (rest := []) kX13_constant_c3.2.2.2.2.2.1 wl_X13_827 wMv_378 rfl (.inl rfl) rfl (Nat.le_trans (Nat.le_of_ble_eq_true rfl) hL) (Nat.le_of_ble_eq_true rfl) (Nat.le_of_ble_eq_true rfl) h (fun v4 w3 hle h => ?_) (fun _ _ _ h => kzx_no rfl h)
    have h := h hle
    exact kz_iret (M := kt_M377) kX13_constant_c3.2.2.2.2.2.2.1 rfl rfl h
  · skip
    refine kz_aload_n (M := kt_M377) kX13_constant_c3.2.2.2.2.2.2.2.1 rfl ?_
    refine kz_aload_n (M := kt_M377) kX13_constant_c4.1 rfl ?_
    refine kz_gfc (M := kt_M377) (x := 4100) (c := 12) (o := 0) kX13_constant_c4.2.1 wf_X13_193 (.inl rfl) ?_
    refine kz_iload_n (M := kt_M377) kX13_constant_c4.2.2.1 rfl ?_
    refine kz_iald (M := kt_M377) (c := 12) (o := 0) (k := 28) (a := (E.2.1 4100)) kX13_constant_c4.2.2.2.1 ow_12_0_28 oa_12_0_28 ot_0 h (fun h => ?_)
    refine kz_cv1 (M := kt_M377) (c := 12) (o := 0) (As := [.int (w_a w 12 0 28 (x1).toNatClampNeg)]) (rest := []) kX13_constant_c4.2.2.2.2.1 wl_X13_824 wMv_377 rfl (.inl rfl) rfl (Nat.le_trans (Nat.le_of_ble_eq_true rfl) hL) (Nat.le_of_ble_eq_true rfl) (Nat.le_of_ble_eq_true rfl) h (fun v6 w5 hle h => ?_) (fun _ _ _ h => kzx_no rfl h)
    have h := h hle
    exact kz_iret (M := kt_M377) kX13_constant_c4.2.2.2.2.2.1 rfl rfl h
  · skip
    refine kz_aload_n (M := kt_M377) kX13_constant_c4.2.2.2.2.2.2.1 rfl ?_
    refine kz_gfc (M := kt_M377) (x := 4101) (c := 12) (o := 0) kX13_constant_c4.2.2.2.2.2.2.2.1 wf_X13_196 (.inl rfl) ?_
    refine kz_iload_n (M := kt_M377) kX13_constant_c5.1 rfl ?_
    refine kz_iald (M := kt_M377) (c := 12) (o := 0) (k := 29) (a := (E.2.1 4101)) kX13_constant_c5.2.1 ow_12_0_29 oa_12_0_29 ot_0 h (fun h => ?_)
    refine kz_bi (M := kt_M377) 27 kX13_constant_c5.2.2.1 rfl ?_
    refine kz_icmp_ne (M := kt_M377) kX13_constant_c5.2.2.2.1 (t := 155) rfl h (fun h => ?_) (fun h => ?_)
    · skip
      refine kz_aload_n (M := kt_M377) kX13_constant_c6.2.2.2.1 rfl ?_
      refine kz_aload_n (M := kt_M377) kX13_constant_c6.2.2.2.2.1 rfl ?_
      refine kz_gfc (M := kt_M377) (x := 4101) (c := 12) (o := 0) kX13_constant_c6.2.2.2.2.2.1 wf_X13_196 (.inl rfl) ?_
      refine kz_iload_n (M := kt_M377) kX13_constant_c6.2.2.2.2.2.2.1 rfl ?_
      refine kz_iald (M := kt_M377) (c := 12) (o := 0) (k := 29) (a := (E.2.1 4101)) kX13_constant_c6.2.2.2.2.2.2.2.1 ow_12_0_29 oa_12_0_29 ot_0 h (fun h => ?_)
      refine kz_aload_n (M := kt_M377) kX13_constant_c7.1 rfl ?_
      refine kz_aload_n (M := kt_M377) kX13_constant_c7.2.1 rfl ?_
      refine kz_gfc (M := kt_M377) (x := 4100) (c := 12) (o := 0) kX13_constant_c7.2.2.1 wf_X13_193 (.inl rfl) ?_
      refine kz_iload_n (M := kt_M377) kX13_constant_c7.2.2.2.1 rfl ?_
      refine kz_iald (M := kt_M377) (c := 12) (o := 0) (k := 28) (a := (E.2.1 4100)) kX13_constant_c7.2.2.2.2.1 ow_12_0_28 oa_12_0_28 ot_0 h (fun h => ?_)
      refine kz_cv1 (M := kt_M377) (c := 12) (o := 0) (As := [.int (w_a w 12 0 28 (x1).toNatClampNeg)]) (rest := [.int (w_a w 12 0 29 (x1).toNatClampNeg), .ref (w_adr E.2.1 12 0)]) kX13_constant_c7.2.2.2.2.2.1 wl_X13_824 wMv_377 rfl (.inl rfl) rfl (Nat.le_trans (Nat.le_of_ble_eq_true rfl) hL) (Nat.le_of_ble_eq_true rfl) (Nat.le_of_ble_eq_true rfl) h (fun v8 w7 hle h => ?_) (fun _ _ _ h => kzx_no rfl h)
      have h := h hle
      refine kz_cv1 (M := kt_M377) (c := 12) (o := 0) (As := [.int (w_a w 12 0 29 (x1).toNatClampNeg), .int v8]) (rest := []) kX13_constant_c7.2.2.2.2.2.2.1 wl_X13_830 wMv_536 rfl (.inl rfl) rfl (Nat.le_trans (Nat.le_of_ble_eq_true rfl) hL) (Nat.le_of_ble_eq_true rfl) (Nat.le_of_ble_eq_true rfl) h (fun v10 w9 hle h => ?_) (fun _ _ _ h => kzx_no rfl h)
      have h := h hle
      exact kz_weak [(0, .ref (w_adr E.2.1 12 0))] ⟨rfl, trivial⟩ rfl (zt_X13_constant_p175 hL  h)
    · skip
      refine kz_aload_n (M := kt_M377) kX13_constant_c5.2.2.2.2.1 rfl ?_
      refine kz_aload_n (M := kt_M377) kX13_constant_c5.2.2.2.2.2.1 rfl ?_
      refine kz_gfc (M := kt_M377) (x := 4100) (c := 12) (o := 0) kX13_constant_c5.2.2.2.2.2.2.1 wf_X13_193 (.inl rfl) ?_
      refine kz_iload_n (M := kt_M377) kX13_constant_c5.2.2.2.2.2.2.2.1 rfl ?_
      refine kz_iald (M := kt_M377) (c := 12) (o := 0) (k := 28) (a := (E.2.1 4100)) kX13_constant_c6.1 ow_12_0_28 oa_12_0_28 ot_0 h (fun h => ?_)
      refine kz_cv1 (M := kt_M377) (c := 12) (o := 0) (As := [.int (w_a w 12 0 28 (x1).toNatClampNeg)]) (rest := []) kX13_constant_c6.2.1 wl_X13_819 wMv_465 rfl (.inl rfl) rfl (Nat.le_trans (Nat.le_of_ble_eq_true rfl) hL) (Nat.le_of_ble_eq_true rfl) (Nat.le_of_ble_eq_true rfl) h (fun v12 w11 hle h => ?_) (fun _ _ _ h => kzx_no rfl h)
      have h := h hle
      refine kz_goto (M := kt_M377) kX13_constant_c6.2.2.1 (t := 175) rfl ?_
      exact kz_weak [(0, .ref (w_adr E.2.1 12 0))] ⟨rfl, trivial⟩ rfl (zt_X13_constant_p175 hL  h)
  · skip
    refine kz_aload_n (M := kt_M377) kX13_constant_c8.1 rfl ?_
    refine kz_aload_n (M := kt_M377) kX13_constant_c8.2.1 rfl ?_
    refine kz_gfc (M := kt_M377) (x := 4100) (c := 12) (o := 0) kX13_constant_c8.2.2.1 wf_X13_193 (.inl rfl) ?_
    refine kz_iload_n (M := kt_M377) kX13_constant_c8.2.2.2.1 rfl ?_
    refine kz_iald (M := kt_M377) (c := 12) (o := 0) (k := 28) (a := (E.2.1 4100)) kX13_constant_c8.2.2.2.2.1 ow_12_0_28 oa_12_0_28 ot_0 h (fun h => ?_)
    refine kz_cv1 (M := kt_M377) (c := 12) (o := 0) (As := [.int (w_a w 12 0 28 (x1).toNatClampNeg)]) (rest := []) kX13_constant_c8.2.2.2.2.2.1 wl_X13_824 wMv_377 rfl (.inl rfl) rfl (Nat.le_trans (Nat.le_of_ble_eq_true rfl) hL) (Nat.le_of_ble_eq_true rfl) (Nat.le_of_ble_eq_true rfl) h (fun v14 w13 hle h => ?_) (fun _ _ _ h => kzx_no rfl h)
    have h := h hle
    refine kz_sti_n (M := kt_M377) [(0, .ref (w_adr E.2.1 12 0)), (1, .int x1)] kX13_constant_c8.2.2.2.2.2.2.1 (Nat.le_of_ble_eq_true rfl) ⟨⟨rfl, rfl, .inl rfl⟩, ⟨⟨rfl, rfl, .inr rfl⟩, trivial⟩⟩ rfl ?_
    refine kz_aload_n (M := kt_M377) kX13_constant_c8.2.2.2.2.2.2.2.1 rfl ?_
    refine kz_aload_n (M := kt_M377) kX13_constant_c9.1 rfl ?_
    refine kz_gfc (M := kt_M377) (x := 4101) (c := 12) (o := 0) kX13_constant_c9.2.1 wf_X13_196 (.inl rfl) ?_
    refine kz_iload_n (M := kt_M377) kX13_constant_c9.2.2.1 rfl ?_
    refine kz_iald (M := kt_M377) (c := 12) (o := 0) (k := 29) (a := (E.2.1 4101)) kX13_constant_c9.2.2.2.1 ow_12_0_29 oa_12_0_29 ot_0 h (fun h => ?_)
    refine kz_iload_n (M := kt_M377) kX13_constant_c9.2.2.2.2.1 rfl ?_
    refine kz_aload_n (M := kt_M377) kX13_constant_c9.2.2.2.2.2.1 rfl ?_
    refine kz_aload_n (M := kt_M377) kX13_constant_c9.2.2.2.2.2.2.1 rfl ?_
    refine kz_gfc (M := kt_M377) (x := 4102) (c := 12) (o := 0) kX13_constant_c9.2.2.2.2.2.2.2.1 wf_X13_199 (.inl rfl) ?_
    refine kz_iload_n (M := kt_M377) kX13_constant_c10.1 rfl ?_
    refine kz_iald (M := kt_M377) (c := 12) (o := 0) (k := 30) (a := (E.2.1 4102)) kX13_constant_c10.2.1 ow_12_0_30 oa_12_0_30 ot_0 h (fun h => ?_)
    refine kz_cv1 (M := kt_M377) (c := 12) (o := 0) (As := [.int (w_a w13 12 0 30 (x1).toNatClampNeg)]) (rest := [.int v14, .int (w_a w13 12 0 29 (x1).toNatClampNeg), .ref (w_adr E.2.1 12 0)]) kX13_constant_c10.2.2.1 wl_X13_824 wMv_377 rfl (.inl rfl) rfl (Nat.le_trans (Nat.le_of_ble_eq_true rfl) hL) (Nat.le_of_ble_eq_true rfl) (Nat.le_of_ble_eq_true rfl) h (fun v16 w15 hle h => ?_) (fun _ _ _ h => kzx_no rfl h)
    have h := h hle
    refine kz_cv1 (M := kt_M377) (c := 12) (o := 0) (As := [.int (w_a w13 12 0 29 (x1).toNatClampNeg), .int v14, .int v16]) (rest := []) kX13_constant_c10.2.2.2.1 wl_X13_833 wMv_605 rfl (.inl rfl) rfl (Nat.le_trans (Nat.le_of_ble_eq_true rfl) hL) (Nat.le_of_ble_eq_true rfl) (Nat.le_of_ble_eq_true rfl) h (fun v18 w17 hle h => ?_) (fun _ _ _ h => kzx_no rfl h)
    have h := h hle
    exact kz_iret (M := kt_M377) kX13_constant_c10.2.2.2.2.1 rfl rfl h
  · skip
    refine kz_aload_n (M := kt_M377) kX13_constant_c10.2.2.2.2.2.1 rfl ?_
    refine kz_gfc (M := kt_M377) (x := 4101) (c := 12) (o := 0) kX13_constant_c10.2.2.2.2.2.2.1 wf_X13_196 (.inl rfl) ?_
    refine kz_iload_n (M := kt_M377) kX13_constant_c10.2.2.2.2.2.2.2.1 rfl ?_
    refine kz_iald (M := kt_M377) (c := 12) (o := 0) (k := 29) (a := (E.2.1 4101)) kX13_constant_c11.1 ow_12_0_29 oa_12_0_29 ot_0 h (fun h => ?_)
    refine kz_ic (M := kt_M377) 2 kX13_constant_c11.2.1 rfl ?_
    refine kz_icmp_ne (M := kt_M377) kX13_constant_c11.2.2.1 (t := 223) rfl h (fun h => ?_) (fun h => ?_)
    · skip
      refine kz_ic (M := kt_M377) 0 kX13_constant_c11.2.2.2.2.2.1 rfl ?_
      exact kz_weak [(0, .ref (w_adr E.2.1 12 0)), (1, .int x1)] ⟨rfl, ⟨rfl, trivial⟩⟩ rfl (zt_X13_constant_p224 hL  h)
    · skip
      refine kz_ic (M := kt_M377) 1 kX13_constant_c11.2.2.2.1 rfl ?_
      refine kz_goto (M := kt_M377) kX13_constant_c11.2.2.2.2.1 (t := 224) rfl ?_
      exact kz_weak [(0, .ref (w_adr E.2.1 12 0)), (1, .int x1)] ⟨rfl, ⟨rfl, trivial⟩⟩ rfl (zt_X13_constant_p224 hL  h)
  · skip
    refine kz_aload_n (M := kt_M377) kX13_constant_c18.2.1 rfl ?_
    refine kz_gfc (M := kt_M377) (x := 4103) (c := 12) (o := 0) kX13_constant_c18.2.2.1 wf_X13_202 (.inl rfl) ?_
    refine kz_iload_n (M := kt_M377) kX13_constant_c18.2.2.2.1 rfl ?_
    refine kz_iald (M := kt_M377) (c := 12) (o := 0) (k := 31) (a := (E.2.1 4103)) kX13_constant_c18.2.2.2.2.1 ow_12_0_31 oa_12_0_31 ot_0 h (fun h => ?_)
    refine kz_sti_n (M := kt_M377) [(0, .ref (w_adr E.2.1 12 0))] kX13_constant_c18.2.2.2.2.2.1 (Nat.le_of_ble_eq_true rfl) ⟨⟨rfl, rfl, .inl rfl⟩, trivial⟩ rfl ?_
    refine kz_aload_n (M := kt_M377) kX13_constant_c18.2.2.2.2.2.2.1 rfl ?_
    refine kz_gfc (M := kt_M377) (x := 4118) (c := 12) (o := 0) kX13_constant_c18.2.2.2.2.2.2.2.1 wf_X13_223 (.inl rfl) ?_
    refine kz_iload_n (M := kt_M377) kX13_constant_c19.1 rfl ?_
    refine kz_iald (M := kt_M377) (c := 12) (o := 0) (k := 46) (a := (E.2.1 4118)) kX13_constant_c19.2.1 ow_12_0_46 oa_12_0_46 ot_0 h (fun h => ?_)
    refine kz_bi (M := kt_M377) 9 kX13_constant_c19.2.2.1 rfl ?_
    refine kz_icmp_ne (M := kt_M377) kX13_constant_c19.2.2.2.1 (t := 341) rfl h (fun h => ?_) (fun h => ?_)
    · skip
      refine kz_aload_n (M := kt_M377) kX13_constant_c20.2.1 rfl ?_
      refine kz_gfc (M := kt_M377) (x := 4141) (c := 12) (o := 0) kX13_constant_c20.2.2.1 wf_X13_275 (.inl rfl) ?_
      refine kz_iload_n (M := kt_M377) kX13_constant_c20.2.2.2.1 rfl ?_
      refine kz_iald (M := kt_M377) (c := 12) (o := 0) (k := 69) (a := (E.2.1 4141)) kX13_constant_c20.2.2.2.2.1 ow_12_0_69 oa_12_0_69 ot_0 h (fun h => ?_)
      exact kz_weak [(0, .ref (w_adr E.2.1 12 0))] ⟨rfl, trivial⟩ rfl (zt_X13_constant_p347 hL  h)
    · skip
      refine kz_aload_n (M := kt_M377) kX13_constant_c19.2.2.2.2.1 rfl ?_
      refine kz_gfc (M := kt_M377) (x := 4142) (c := 12) (o := 0) kX13_constant_c19.2.2.2.2.2.1 wf_X13_278 (.inl rfl) ?_
      refine kz_iload_n (M := kt_M377) kX13_constant_c19.2.2.2.2.2.2.1 rfl ?_
      refine kz_iald (M := kt_M377) (c := 12) (o := 0) (k := 70) (a := (E.2.1 4142)) kX13_constant_c19.2.2.2.2.2.2.2.1 ow_12_0_70 oa_12_0_70 ot_0 h (fun h => ?_)
      refine kz_goto (M := kt_M377) kX13_constant_c20.1 (t := 347) rfl ?_
      exact kz_weak [(0, .ref (w_adr E.2.1 12 0))] ⟨rfl, trivial⟩ rfl (zt_X13_constant_p347 hL  h)
def zb_X13_converted_p37 (E : zE) (L : Nat) (Q : kx_Rs → wS → Prop) (x1 : Int32) (w : wS) : Prop := Q (.inl (some (.int x1))) w
theorem zt_X13_converted_p37 {E : zE} {L : Nat} {Q : kx_Rs → wS → Prop} {x1 : Int32} {w : wS} (hL : 21 ≤ L) (h : zb_X13_converted_p37 E L Q x1 w) : kzE E L kt_M378 37 [(0, .ref (w_adr E.2.1 12 0)), (1, .int x1)] [] w Q := by
  unfold zb_X13_converted_p37 at h
  refine kz_iload_n (M := kt_M378) kX13_converted_c2.2.2.2.2.1 rfl ?_
  exact kz_iret (M := kt_M378) kX13_converted_c2.2.2.2.2.2.1 rfl rfl h
def zb_X13_converted_p30 (E : zE) (L : Nat) (Q : kx_Rs → wS → Prop) (w : wS) : Prop := zw E (L - 21) kt_M408 [.ref (w_adr E.2.1 12 0), .int 6] w (wkr (fun v2 w1 => wle w w1 → (v2 = some (w_adr E.2.1 13 0) ∧ Q (.inr "MeetingHouseModel$Halt") w1)) (fun e w => Q (.inr e) w))
theorem zt_X13_converted_p30 {E : zE} {L : Nat} {Q : kx_Rs → wS → Prop} {w : wS} (hL : 21 ≤ L) (h : zb_X13_converted_p30 E L Q  w) : kzE E L kt_M378 30 [(0, .ref (w_adr E.2.1 12 0))] [] w Q := by
  unfold zb_X13_converted_p30 at h
  refine kz_aload_n (M := kt_M378) kX13_converted_c2.1 rfl ?_
  refine kz_bi (M := kt_M378) 6 kX13_converted_c2.2.1 rfl ?_
  refine kz_cvr (M := kt_M378) (c := 12) (o := 0) (As := [.int 6]) (rest := []) kX13_converted_c2.2.2.1 wl_X13_839 wMv_408 rfl (.inl rfl) rfl (Nat.le_trans (Nat.le_of_ble_eq_true rfl) hL) (Nat.le_of_ble_eq_true rfl) (Nat.le_of_ble_eq_true rfl) h (fun v2 w1 hle h => ?_) (fun _ _ _ h => kzx_no rfl h)
  have h := h hle
  exact kz_throw (M := kt_M378) (c := 13) (o := 0) kX13_converted_c2.2.2.2.1 rfl (.inl rfl) h (fun h => kzx_no rfl h)
def zb_X13_converted_p16 (E : zE) (L : Nat) (Q : kx_Rs → wS → Prop) (x1 : Int32) (x2 : Int32) (w : wS) : Prop := (if ¬ x2 = 2 then zb_X13_converted_p37 E L Q x1 w else (if x1 = 0 then zb_X13_converted_p37 E L Q x1 w else (if x1 = 1 then zb_X13_converted_p37 E L Q x1 w else zb_X13_converted_p30 E L Q w)))
theorem zt_X13_converted_p16 {E : zE} {L : Nat} {Q : kx_Rs → wS → Prop} {x1 : Int32} {x2 : Int32} {w : wS} (hL : 21 ≤ L) (h : zb_X13_converted_p16 E L Q x1 x2 w) : kzE E L kt_M378 16 [(0, .ref (w_adr E.2.1 12 0)), (1, .int x1), (2, .int x2)] [] w Q := by
  unfold zb_X13_converted_p16 at h
  refine kz_iload_n (M := kt_M378) kX13_converted_c1.1 rfl ?_
  refine kz_ic (M := kt_M378) 2 kX13_converted_c1.2.1 rfl ?_
  refine kz_icmp_ne (M := kt_M378) kX13_converted_c1.2.2.1 (t := 37) rfl h (fun h => ?_) (fun h => ?_)
  · skip
    exact kz_weak [(0, .ref (w_adr E.2.1 12 0)), (1, .int x1)] ⟨rfl, ⟨rfl, trivial⟩⟩ rfl (zt_X13_converted_p37 hL  h)
  · skip
    refine kz_iload_n (M := kt_M378) kX13_converted_c1.2.2.2.1 rfl ?_
    refine kz_if_eq (M := kt_M378) kX13_converted_c1.2.2.2.2.1 (t := 37) rfl h (fun h => ?_) (fun h => ?_)
    · skip
      exact kz_weak [(0, .ref (w_adr E.2.1 12 0)), (1, .int x1)] ⟨rfl, ⟨rfl, trivial⟩⟩ rfl (zt_X13_converted_p37 hL  h)
    · skip
      refine kz_iload_n (M := kt_M378) kX13_converted_c1.2.2.2.2.2.1 rfl ?_
      refine kz_ic (M := kt_M378) 1 kX13_converted_c1.2.2.2.2.2.2.1 rfl ?_
      refine kz_icmp_eq (M := kt_M378) kX13_converted_c1.2.2.2.2.2.2.2.1 (t := 37) rfl h (fun h => ?_) (fun h => ?_)
      · skip
        exact kz_weak [(0, .ref (w_adr E.2.1 12 0)), (1, .int x1)] ⟨rfl, ⟨rfl, trivial⟩⟩ rfl (zt_X13_converted_p37 hL  h)
      · skip
        exact kz_weak [(0, .ref (w_adr E.2.1 12 0))] ⟨rfl, trivial⟩ rfl (zt_X13_converted_p30 hL  h)
def zb_X13_converted_p0 (E : zE) (L : Nat) (Q : kx_Rs → wS → Prop) (x1 : Int32) (x2 : Int32) (w : wS) : Prop := (if ¬ x2 = 1 then zb_X13_converted_p16 E L Q x1 x2 w else (if x1 < 0 then zb_X13_converted_p30 E L Q w else (if 255 < x1 then zb_X13_converted_p30 E L Q w else zb_X13_converted_p16 E L Q x1 x2 w)))
theorem zt_X13_converted_p0 {E : zE} {L : Nat} {Q : kx_Rs → wS → Prop} {x1 : Int32} {x2 : Int32} {w : wS} (hL : 21 ≤ L) (h : zb_X13_converted_p0 E L Q x1 x2 w) : kzE E L kt_M378 0 [(0, .ref (w_adr E.2.1 12 0)), (1, .int x1), (2, .int x2)] [] w Q := by
  unfold zb_X13_converted_p0 at h
  refine kz_iload_n (M := kt_M378) kX13_converted_c0.1 rfl ?_
  refine kz_ic (M := kt_M378) 1 kX13_converted_c0.2.1 rfl ?_
  refine kz_icmp_ne (M := kt_M378) kX13_converted_c0.2.2.1 (t := 16) rfl h (fun h => ?_) (fun h => ?_)
  · skip
    exact kz_weak [(0, .ref (w_adr E.2.1 12 0)), (1, .int x1), (2, .int x2)] ⟨rfl, ⟨rfl, ⟨rfl, trivial⟩⟩⟩ rfl (zt_X13_converted_p16 hL  h)
  · skip
    refine kz_iload_n (M := kt_M378) kX13_converted_c0.2.2.2.1 rfl ?_
    refine kz_if_lt (M := kt_M378) kX13_converted_c0.2.2.2.2.1 (t := 30) rfl h (fun h => ?_) (fun h => ?_)
    · skip
      exact kz_weak [(0, .ref (w_adr E.2.1 12 0))] ⟨rfl, trivial⟩ rfl (zt_X13_converted_p30 hL  h)
    · skip
      refine kz_iload_n (M := kt_M378) kX13_converted_c0.2.2.2.2.2.1 rfl ?_
      refine kz_si (M := kt_M378) 255 kX13_converted_c0.2.2.2.2.2.2.1 rfl ?_
      refine kz_icmp_gt (M := kt_M378) kX13_converted_c0.2.2.2.2.2.2.2.1 (t := 30) rfl h (fun h => ?_) (fun h => ?_)
      · skip
        exact kz_weak [(0, .ref (w_adr E.2.1 12 0))] ⟨rfl, trivial⟩ rfl (zt_X13_converted_p30 hL  h)
      · skip
        exact kz_weak [(0, .ref (w_adr E.2.1 12 0)), (1, .int x1), (2, .int x2)] ⟨rfl, ⟨rfl, ⟨rfl, trivial⟩⟩⟩ rfl (zt_X13_converted_p16 hL  h)
def zL_X13_typeParts_p6 (E : zE) (L : Nat) (Q : kx_Rs → wS → Prop) (x3 : Int32) (x4 : Int32) (x5 : Int32) (w : wS) : Prop := kzE E L kt_M584 6 [(0, .ref (w_adr E.2.1 12 0)), (3, .int x3), (4, .int x4), (5, .int x5)] [] w Q
def zb_X13_typeParts_p81 (E : zE) (L : Nat) (Q : kx_Rs → wS → Prop) (w : wS) : Prop := Q (.inl none) w
theorem zt_X13_typeParts_p81 {E : zE} {L : Nat} {Q : kx_Rs → wS → Prop} {w : wS} (hL : 22 ≤ L) (h : zb_X13_typeParts_p81 E L Q  w) : kzE E L kt_M584 81 [(0, .ref (w_adr E.2.1 12 0))] [] w Q := by
  unfold zb_X13_typeParts_p81 at h
  exact kz_ret (M := kt_M584) kX13_typeParts_c5.2.1 rfl h
def zb_X13_typeParts_p51 (E : zE) (L : Nat) (Q : kx_Rs → wS → Prop) (x3 : Int32) (x5 : Int32) (y0 : Int32) (y1 : Int32) (w : wS) : Prop := (kx_inb x5 (w_n w 12 0 32) = true ∧ zL_X13_typeParts_p6 E L Q x3 (y1 + y0) (w_a w 12 0 32 (x5).toNatClampNeg) w)
theorem zt_X13_typeParts_p51 {E : zE} {L : Nat} {Q : kx_Rs → wS → Prop} {x3 : Int32} {x5 : Int32} {y0 : Int32} {y1 : Int32} {w : wS} (hL : 22 ≤ L) (h : zb_X13_typeParts_p51 E L Q x3 x5 y0 y1 w) : kzE E L kt_M584 51 [(0, .ref (w_adr E.2.1 12 0)), (3, .int x3), (5, .int x5)] [.int y0, .int y1] w Q := by
  unfold zb_X13_typeParts_p51 at h
  refine kz_iadd (M := kt_M584) kX13_typeParts_c3.2.2.1 ?_
  refine kz_sti (M := kt_M584) [(0, .ref (w_adr E.2.1 12 0)), (3, .int x3), (5, .int x5)] kX13_typeParts_c3.2.2.2.1 (Nat.le_of_ble_eq_true rfl) ⟨⟨rfl, rfl, .inl rfl⟩, ⟨⟨rfl, rfl, .inr rfl⟩, ⟨⟨rfl, rfl, .inl rfl⟩, trivial⟩⟩⟩ rfl ?_
  refine kz_aload_n (M := kt_M584) kX13_typeParts_c3.2.2.2.2.1 rfl ?_
  refine kz_gfc (M := kt_M584) (x := 4104) (c := 12) (o := 0) kX13_typeParts_c3.2.2.2.2.2.1 wf_X13_205 (.inl rfl) ?_
  refine kz_iload (M := kt_M584) kX13_typeParts_c3.2.2.2.2.2.2.1 rfl ?_
  refine kz_iald (M := kt_M584) (c := 12) (o := 0) (k := 32) (a := (E.2.1 4104)) kX13_typeParts_c3.2.2.2.2.2.2.2.1 ow_12_0_32 oa_12_0_32 ot_0 h (fun h => ?_)
  refine kz_sti (M := kt_M584) [(0, .ref (w_adr E.2.1 12 0)), (3, .int x3), (4, .int (y1 + y0))] kX13_typeParts_c4.1 (Nat.le_of_ble_eq_true rfl) ⟨⟨rfl, rfl, .inl rfl⟩, ⟨⟨rfl, rfl, .inl rfl⟩, ⟨⟨rfl, rfl, .inr rfl⟩, trivial⟩⟩⟩ rfl ?_
  refine kz_goto (M := kt_M584) kX13_typeParts_c4.2.1 (t := 6) rfl ?_
  exact kz_weak [(0, .ref (w_adr E.2.1 12 0)), (3, .int x3), (4, .int (y1 + y0)), (5, .int (w_a w 12 0 32 (x5).toNatClampNeg))] ⟨rfl, ⟨rfl, ⟨rfl, ⟨rfl, trivial⟩⟩⟩⟩ rfl h
def zb_X13_typeParts_p36 (E : zE) (L : Nat) (Q : kx_Rs → wS → Prop) (x3 : Int32) (x4 : Int32) (x5 : Int32) (y0 : Int32) (w : wS) : Prop := (if 0 ≤ y0 then zb_X13_typeParts_p51 E L Q x3 x5 y0 x4 w else zb_X13_typeParts_p51 E L Q x3 x5 0 x4 w)
theorem zt_X13_typeParts_p36 {E : zE} {L : Nat} {Q : kx_Rs → wS → Prop} {x3 : Int32} {x4 : Int32} {x5 : Int32} {y0 : Int32} {w : wS} (hL : 22 ≤ L) (h : zb_X13_typeParts_p36 E L Q x3 x4 x5 y0 w) : kzE E L kt_M584 36 [(0, .ref (w_adr E.2.1 12 0)), (3, .int x3), (4, .int x4), (5, .int x5)] [.int y0] w Q := by
  unfold zb_X13_typeParts_p36 at h
  refine kz_sti (M := kt_M584) [(0, .ref (w_adr E.2.1 12 0)), (3, .int x3), (4, .int x4), (5, .int x5)] kX13_typeParts_c2.2.2.2.1 (Nat.le_of_ble_eq_true rfl) ⟨⟨rfl, rfl, .inl rfl⟩, ⟨⟨rfl, rfl, .inl rfl⟩, ⟨⟨rfl, rfl, .inl rfl⟩, ⟨⟨rfl, rfl, .inr rfl⟩, trivial⟩⟩⟩⟩ rfl ?_
  refine kz_iload (M := kt_M584) kX13_typeParts_c2.2.2.2.2.1 rfl ?_
  refine kz_iload (M := kt_M584) kX13_typeParts_c2.2.2.2.2.2.1 rfl ?_
  refine kz_if_ge (M := kt_M584) kX13_typeParts_c2.2.2.2.2.2.2.1 (t := 49) rfl h (fun h => ?_) (fun h => ?_)
  · skip
    refine kz_iload (M := kt_M584) kX13_typeParts_c3.2.1 rfl ?_
    exact kz_weak [(0, .ref (w_adr E.2.1 12 0)), (3, .int x3), (5, .int x5)] ⟨rfl, ⟨rfl, ⟨rfl, trivial⟩⟩⟩ rfl (zt_X13_typeParts_p51 hL  h)
  · skip
    refine kz_ic (M := kt_M584) 0 kX13_typeParts_c2.2.2.2.2.2.2.2.1 rfl ?_
    refine kz_goto (M := kt_M584) kX13_typeParts_c3.1 (t := 51) rfl ?_
    exact kz_weak [(0, .ref (w_adr E.2.1 12 0)), (3, .int x3), (5, .int x5)] ⟨rfl, ⟨rfl, ⟨rfl, trivial⟩⟩⟩ rfl (zt_X13_typeParts_p51 hL  h)
def zb_X13_typeParts_p6 (E : zE) (L : Nat) (Q : kx_Rs → wS → Prop) (x3 : Int32) (x4 : Int32) (x5 : Int32) (w : wS) : Prop := (if x5 < 0 then (if x4 ≤ 1000 then zb_X13_typeParts_p81 E L Q w else zw E (L - 22) kt_M560 [.ref (w_adr E.2.1 12 0), .int 9, .int x3] w (wk0 (fun w1 => wle w w1 → zb_X13_typeParts_p81 E L Q w1) (fun e w => Q (.inr e) w))) else (kx_inb x5 (w_n w 12 0 28) = true ∧ (if w_a w 12 0 28 (x5).toNatClampNeg < 0 then zb_X13_typeParts_p36 E L Q x3 x4 x5 1 w else (kx_inb x5 (w_n w 12 0 28) = true ∧ zw E (L - 22) kt_M539 [.ref (w_adr E.2.1 12 0), .int (w_a w 12 0 28 (x5).toNatClampNeg)] w (wk1 (fun v4 w3 => wle w w3 → zb_X13_typeParts_p36 E L Q x3 x4 x5 v4 w3) (fun e w => Q (.inr e) w))))))
theorem zt_X13_typeParts_p6 {E : zE} {L : Nat} {Q : kx_Rs → wS → Prop} {x3 : Int32} {x4 : Int32} {x5 : Int32} {w : wS} (hL : 22 ≤ L) (h : zb_X13_typeParts_p6 E L Q x3 x4 x5 w) : kzE E L kt_M584 6 [(0, .ref (w_adr E.2.1 12 0)), (3, .int x3), (4, .int x4), (5, .int x5)] [] w Q := by
  unfold zb_X13_typeParts_p6 at h
  refine kz_iload (M := kt_M584) kX13_typeParts_c0.2.2.2.2.1 rfl ?_
  refine kz_if_lt (M := kt_M584) kX13_typeParts_c0.2.2.2.2.2.1 (t := 66) rfl h (fun h => ?_) (fun h => ?_)
  · skip
    refine kz_iload (M := kt_M584) kX13_typeParts_c4.2.2.1 rfl ?_
    refine kz_si (M := kt_M584) 1000 kX13_typeParts_c4.2.2.2.1 rfl ?_
    refine kz_icmp_le (M := kt_M584) kX13_typeParts_c4.2.2.2.2.1 (t := 81) rfl h (fun h => ?_) (fun h => ?_)
    · skip
      exact kz_weak [(0, .ref (w_adr E.2.1 12 0))] ⟨rfl, trivial⟩ rfl (zt_X13_typeParts_p81 hL  h)
    · skip
      refine kz_aload_n (M := kt_M584) kX13_typeParts_c4.2.2.2.2.2.1 rfl ?_
      refine kz_bi (M := kt_M584) 9 kX13_typeParts_c4.2.2.2.2.2.2.1 rfl ?_
      refine kz_iload_n (M := kt_M584) kX13_typeParts_c4.2.2.2.2.2.2.2.1 rfl ?_
      refine kz_cv0 (M := kt_M584) (c := 12) (o := 0) (As := [.int 9, .int x3]) (rest := []) kX13_typeParts_c5.1 wl_X13_734 wMv_560 rfl (.inl rfl) rfl (Nat.le_trans (Nat.le_of_ble_eq_true rfl) hL) (Nat.le_of_ble_eq_true rfl) (Nat.le_of_ble_eq_true rfl) h (fun w1 hle h => ?_) (fun _ _ _ h => kzx_no rfl h)
      have h := h hle
      exact kz_weak [(0, .ref (w_adr E.2.1 12 0))] ⟨rfl, trivial⟩ rfl (zt_X13_typeParts_p81 hL  h)
  · skip
    refine kz_aload_n (M := kt_M584) kX13_typeParts_c0.2.2.2.2.2.2.1 rfl ?_
    refine kz_gfc (M := kt_M584) (x := 4100) (c := 12) (o := 0) kX13_typeParts_c0.2.2.2.2.2.2.2.1 wf_X13_193 (.inl rfl) ?_
    refine kz_iload (M := kt_M584) kX13_typeParts_c1.1 rfl ?_
    refine kz_iald (M := kt_M584) (c := 12) (o := 0) (k := 28) (a := (E.2.1 4100)) kX13_typeParts_c1.2.1 ow_12_0_28 oa_12_0_28 ot_0 h (fun h => ?_)
    refine kz_if_lt (M := kt_M584) kX13_typeParts_c1.2.2.1 (t := 35) rfl h (fun h => ?_) (fun h => ?_)
    · skip
      refine kz_ic (M := kt_M584) 1 kX13_typeParts_c2.2.2.1 rfl ?_
      exact kz_weak [(0, .ref (w_adr E.2.1 12 0)), (3, .int x3), (4, .int x4), (5, .int x5)] ⟨rfl, ⟨rfl, ⟨rfl, ⟨rfl, trivial⟩⟩⟩⟩ rfl (zt_X13_typeParts_p36 hL  h)
    · skip
      refine kz_aload_n (M := kt_M584) kX13_typeParts_c1.2.2.2.1 rfl ?_
      refine kz_aload_n (M := kt_M584) kX13_typeParts_c1.2.2.2.2.1 rfl ?_
      refine kz_gfc (M := kt_M584) (x := 4100) (c := 12) (o := 0) kX13_typeParts_c1.2.2.2.2.2.1 wf_X13_193 (.inl rfl) ?_
      refine kz_iload (M := kt_M584) kX13_typeParts_c1.2.2.2.2.2.2.1 rfl ?_
      refine kz_iald (M := kt_M584) (c := 12) (o := 0) (k := 28) (a := (E.2.1 4100)) kX13_typeParts_c1.2.2.2.2.2.2.2.1 ow_12_0_28 oa_12_0_28 ot_0 h (fun h => ?_)
      refine kz_cv1 (M := kt_M584) (c := 12) (o := 0) (As := [.int (w_a w 12 0 28 (x5).toNatClampNeg)]) (rest := []) kX13_typeParts_c2.1 wl_X13_922 wMv_539 rfl (.inl rfl) rfl (Nat.le_trans (Nat.le_of_ble_eq_true rfl) hL) (Nat.le_of_ble_eq_true rfl) (Nat.le_of_ble_eq_true rfl) h (fun v4 w3 hle h => ?_) (fun _ _ _ h => kzx_no rfl h)
      have h := h hle
      refine kz_goto (M := kt_M584) kX13_typeParts_c2.2.1 (t := 36) rfl ?_
      exact kz_weak [(0, .ref (w_adr E.2.1 12 0)), (3, .int x3), (4, .int x4), (5, .int x5)] ⟨rfl, ⟨rfl, ⟨rfl, ⟨rfl, trivial⟩⟩⟩⟩ rfl (zt_X13_typeParts_p36 hL  h)
def zb_X13_typeParts_p0 (E : zE) (L : Nat) (Q : kx_Rs → wS → Prop) (x1 : Int32) (x2 : Int32) (x3 : Int32) (w : wS) : Prop := zL_X13_typeParts_p6 E L Q x3 x2 x1 w
theorem zt_X13_typeParts_p0 {E : zE} {L : Nat} {Q : kx_Rs → wS → Prop} {x1 : Int32} {x2 : Int32} {x3 : Int32} {w : wS} (hL : 22 ≤ L) (h : zb_X13_typeParts_p0 E L Q x1 x2 x3 w) : kzE E L kt_M584 0 [(0, .ref (w_adr E.2.1 12 0)), (1, .int x1), (2, .int x2), (3, .int x3)] [] w Q := by
  unfold zb_X13_typeParts_p0 at h
  refine kz_iload_n (M := kt_M584) kX13_typeParts_c0.1 rfl ?_
  refine kz_sti (M := kt_M584) [(0, .ref (w_adr E.2.1 12 0)), (1, .int x1), (3, .int x3)] kX13_typeParts_c0.2.1 (Nat.le_of_ble_eq_true rfl) ⟨⟨rfl, rfl, .inl rfl⟩, ⟨⟨rfl, rfl, .inl rfl⟩, ⟨⟨rfl, rfl, .inr rfl⟩, trivial⟩⟩⟩ rfl ?_
  refine kz_iload_n (M := kt_M584) kX13_typeParts_c0.2.2.1 rfl ?_
  refine kz_sti (M := kt_M584) [(0, .ref (w_adr E.2.1 12 0)), (3, .int x3), (4, .int x2)] kX13_typeParts_c0.2.2.2.1 (Nat.le_of_ble_eq_true rfl) ⟨⟨rfl, rfl, .inl rfl⟩, ⟨⟨rfl, rfl, .inl rfl⟩, ⟨⟨rfl, rfl, .inr rfl⟩, trivial⟩⟩⟩ rfl ?_
  exact kz_weak [(0, .ref (w_adr E.2.1 12 0)), (3, .int x3), (4, .int x2), (5, .int x1)] ⟨rfl, ⟨rfl, ⟨rfl, ⟨rfl, trivial⟩⟩⟩⟩ rfl h
def zb_X13_typeAction_p0 (E : zE) (L : Nat) (Q : kx_Rs → wS → Prop) (x1 : Int32) (w : wS) : Prop := zw E (L - 22) kt_M565 [.ref (w_adr E.2.1 12 0), .int x1] w (wk0 (fun w1 => wle w w1 → Q (.inl none) (ws_g w1 12 0 79 (w_g w 12 0 79))) (fun e w => Q (.inr e) w))
theorem zt_X13_typeAction_p0 {E : zE} {L : Nat} {Q : kx_Rs → wS → Prop} {x1 : Int32} {w : wS} (hL : 22 ≤ L) (h : zb_X13_typeAction_p0 E L Q x1 w) : kzE E L kt_M566 0 [(0, .ref (w_adr E.2.1 12 0)), (1, .int x1)] [] w Q := by
  unfold zb_X13_typeAction_p0 at h
  refine kz_aload_n (M := kt_M566) kX13_typeAction_c0.1 rfl ?_
  refine kz_gfg (M := kt_M566) (c := 12) (o := 0) kX13_typeAction_c0.2.1 wf_X13_938 (.inl rfl) ?_
  refine kz_stl_n (M := kt_M566) [(0, .ref (w_adr E.2.1 12 0)), (1, .int x1)] kX13_typeAction_c0.2.2.1 (Nat.le_of_ble_eq_true rfl) ⟨⟨rfl, rfl, .inl rfl⟩, ⟨⟨rfl, rfl, .inr rfl⟩, trivial⟩⟩ rfl rfl ?_
  refine kz_aload_n (M := kt_M566) kX13_typeAction_c0.2.2.2.1 rfl ?_
  refine kz_iload_n (M := kt_M566) kX13_typeAction_c0.2.2.2.2.1 rfl ?_
  refine kz_cv0 (M := kt_M566) (c := 12) (o := 0) (As := [.int x1]) (rest := []) kX13_typeAction_c0.2.2.2.2.2.1 wl_X13_950 wMv_565 rfl (.inl rfl) rfl (Nat.le_trans (Nat.le_of_ble_eq_true rfl) hL) (Nat.le_of_ble_eq_true rfl) (Nat.le_of_ble_eq_true rfl) h (fun w1 hle h => ?_) (fun _ _ _ h => kzx_no rfl h)
  have h := h hle
  refine kz_aload_n (M := kt_M566) kX13_typeAction_c0.2.2.2.2.2.2.1 rfl ?_
  refine kz_lload_n (M := kt_M566) kX13_typeAction_c0.2.2.2.2.2.2.2.1 rfl ?_
  refine kz_pfg (M := kt_M566) (c := 12) (o := 0) kX13_typeAction_c1.1 wq_X13_938 (.inl rfl) ?_
  exact kz_ret (M := kt_M566) kX13_typeAction_c1.2.1 rfl h
def zL_X13_typeAct_p318 (E : zE) (L : Nat) (Q : kx_Rs → wS → Prop) (x2 : Int32) (w : wS) : Prop := kzE E L kt_M565 318 [(0, .ref (w_adr E.2.1 12 0)), (2, .int x2)] [] w Q
def zL_X13_typeAct_p227 (E : zE) (L : Nat) (Q : kx_Rs → wS → Prop) (x2 : Int32) (w : wS) : Prop := kzE E L kt_M565 227 [(0, .ref (w_adr E.2.1 12 0)), (2, .int x2)] [] w Q
def zL_X13_typeAct_p200 (E : zE) (L : Nat) (Q : kx_Rs → wS → Prop) (x2 : Int32) (w : wS) : Prop := kzE E L kt_M565 200 [(0, .ref (w_adr E.2.1 12 0)), (2, .int x2)] [] w Q
def zb_X13_typeAct_p371 (E : zE) (L : Nat) (Q : kx_Rs → wS → Prop) (x2 : Int32) (w : wS) : Prop := (kx_inb x2 (w_n w 12 0 32) = true ∧ zL_X13_typeAct_p318 E L Q (w_a w 12 0 32 (x2).toNatClampNeg) w)
theorem zt_X13_typeAct_p371 {E : zE} {L : Nat} {Q : kx_Rs → wS → Prop} {x2 : Int32} {w : wS} (hL : 26 ≤ L) (h : zb_X13_typeAct_p371 E L Q x2 w) : kzE E L kt_M565 371 [(0, .ref (w_adr E.2.1 12 0)), (2, .int x2)] [] w Q := by
  unfold zb_X13_typeAct_p371 at h
  refine kz_aload_n (M := kt_M565) kX13_typeAct_c23.2.2.2.1 rfl ?_
  refine kz_gfc (M := kt_M565) (x := 4104) (c := 12) (o := 0) kX13_typeAct_c23.2.2.2.2.1 wf_X13_205 (.inl rfl) ?_
  refine kz_iload_n (M := kt_M565) kX13_typeAct_c23.2.2.2.2.2.1 rfl ?_
  refine kz_iald (M := kt_M565) (c := 12) (o := 0) (k := 32) (a := (E.2.1 4104)) kX13_typeAct_c23.2.2.2.2.2.2.1 ow_12_0_32 oa_12_0_32 ot_0 h (fun h => ?_)
  refine kz_sti_n (M := kt_M565) [(0, .ref (w_adr E.2.1 12 0))] kX13_typeAct_c23.2.2.2.2.2.2.2.1 (Nat.le_of_ble_eq_true rfl) ⟨⟨rfl, rfl, .inl rfl⟩, trivial⟩ rfl ?_
  refine kz_goto (M := kt_M565) kX13_typeAct_c24.1 (t := 318) rfl ?_
  exact kz_weak [(0, .ref (w_adr E.2.1 12 0)), (2, .int (w_a w 12 0 32 (x2).toNatClampNeg))] ⟨rfl, ⟨rfl, trivial⟩⟩ rfl h
def zb_X13_typeAct_p342 (E : zE) (L : Nat) (Q : kx_Rs → wS → Prop) (x2 : Int32) (w : wS) : Prop := (kx_inb x2 (w_n w 12 0 29) = true ∧ zw E (L - 23) kt_M566 [.ref (w_adr E.2.1 12 0), .int (w_a w 12 0 29 (x2).toNatClampNeg)] w (wk0 (fun w1 => wle w w1 → (kx_inb x2 (w_n w1 12 0 30) = true ∧ (if w_a w1 12 0 30 (x2).toNatClampNeg < 0 then zb_X13_typeAct_p371 E L Q x2 w1 else (kx_inb x2 (w_n w1 12 0 30) = true ∧ zw E (L - 21) kt_M571 [.ref (w_adr E.2.1 12 0), .int (w_a w1 12 0 30 (x2).toNatClampNeg)] w1 (wk0 (fun w3 => wle w1 w3 → zb_X13_typeAct_p371 E L Q x2 w3) (fun e w => Q (.inr e) w)))))) (fun e w => Q (.inr e) w)))
theorem zt_X13_typeAct_p342 {E : zE} {L : Nat} {Q : kx_Rs → wS → Prop} {x2 : Int32} {w : wS} (hL : 26 ≤ L) (h : zb_X13_typeAct_p342 E L Q x2 w) : kzE E L kt_M565 342 [(0, .ref (w_adr E.2.1 12 0)), (2, .int x2)] [] w Q := by
  unfold zb_X13_typeAct_p342 at h
  refine kz_aload_n (M := kt_M565) kX13_typeAct_c21.2.2.1 rfl ?_
  refine kz_aload_n (M := kt_M565) kX13_typeAct_c21.2.2.2.1 rfl ?_
  refine kz_gfc (M := kt_M565) (x := 4101) (c := 12) (o := 0) kX13_typeAct_c21.2.2.2.2.1 wf_X13_196 (.inl rfl) ?_
  refine kz_iload_n (M := kt_M565) kX13_typeAct_c21.2.2.2.2.2.1 rfl ?_
  refine kz_iald (M := kt_M565) (c := 12) (o := 0) (k := 29) (a := (E.2.1 4101)) kX13_typeAct_c21.2.2.2.2.2.2.1 ow_12_0_29 oa_12_0_29 ot_0 h (fun h => ?_)
  refine kz_cv0 (M := kt_M565) (c := 12) (o := 0) (As := [.int (w_a w 12 0 29 (x2).toNatClampNeg)]) (rest := []) kX13_typeAct_c21.2.2.2.2.2.2.2.1 wl_X13_916 wMv_566 rfl (.inl rfl) rfl (Nat.le_trans (Nat.le_of_ble_eq_true rfl) hL) (Nat.le_of_ble_eq_true rfl) (Nat.le_of_ble_eq_true rfl) h (fun w1 hle h => ?_) (fun _ _ _ h => kzx_no rfl h)
  have h := h hle
  refine kz_aload_n (M := kt_M565) kX13_typeAct_c22.1 rfl ?_
  refine kz_gfc (M := kt_M565) (x := 4102) (c := 12) (o := 0) kX13_typeAct_c22.2.1 wf_X13_199 (.inl rfl) ?_
  refine kz_iload_n (M := kt_M565) kX13_typeAct_c22.2.2.1 rfl ?_
  refine kz_iald (M := kt_M565) (c := 12) (o := 0) (k := 30) (a := (E.2.1 4102)) kX13_typeAct_c22.2.2.2.1 ow_12_0_30 oa_12_0_30 ot_0 h (fun h => ?_)
  refine kz_if_lt (M := kt_M565) kX13_typeAct_c22.2.2.2.2.1 (t := 371) rfl h (fun h => ?_) (fun h => ?_)
  · skip
    exact kz_weak [(0, .ref (w_adr E.2.1 12 0)), (2, .int x2)] ⟨rfl, ⟨rfl, trivial⟩⟩ rfl (zt_X13_typeAct_p371 hL  h)
  · skip
    refine kz_aload_n (M := kt_M565) kX13_typeAct_c22.2.2.2.2.2.1 rfl ?_
    refine kz_aload_n (M := kt_M565) kX13_typeAct_c22.2.2.2.2.2.2.1 rfl ?_
    refine kz_gfc (M := kt_M565) (x := 4102) (c := 12) (o := 0) kX13_typeAct_c22.2.2.2.2.2.2.2.1 wf_X13_199 (.inl rfl) ?_
    refine kz_iload_n (M := kt_M565) kX13_typeAct_c23.1 rfl ?_
    refine kz_iald (M := kt_M565) (c := 12) (o := 0) (k := 30) (a := (E.2.1 4102)) kX13_typeAct_c23.2.1 ow_12_0_30 oa_12_0_30 ot_0 h (fun h => ?_)
    refine kz_cv0 (M := kt_M565) (c := 12) (o := 0) (As := [.int (w_a w1 12 0 30 (x2).toNatClampNeg)]) (rest := []) kX13_typeAct_c23.2.2.1 wl_X13_910 wMv_571 rfl (.inl rfl) rfl (Nat.le_trans (Nat.le_of_ble_eq_true rfl) hL) (Nat.le_of_ble_eq_true rfl) (Nat.le_of_ble_eq_true rfl) h (fun w3 hle h => ?_) (fun _ _ _ h => kzx_no rfl h)
    have h := h hle
    exact kz_weak [(0, .ref (w_adr E.2.1 12 0)), (2, .int x2)] ⟨rfl, ⟨rfl, trivial⟩⟩ rfl (zt_X13_typeAct_p371 hL  h)
def zb_X13_typeAct_p318 (E : zE) (L : Nat) (Q : kx_Rs → wS → Prop) (x2 : Int32) (w : wS) : Prop := (if x2 < 0 then Q (.inl none) w else (kx_inb x2 (w_n w 12 0 28) = true ∧ (if w_a w 12 0 28 (x2).toNatClampNeg < 0 then zb_X13_typeAct_p342 E L Q x2 w else (kx_inb x2 (w_n w 12 0 28) = true ∧ zw E (L - 23) kt_M602 [.ref (w_adr E.2.1 12 0), .int (w_a w 12 0 28 (x2).toNatClampNeg), .int 2] w (wk0 (fun w1 => wle w w1 → zb_X13_typeAct_p342 E L Q x2 w1) (fun e w => Q (.inr e) w))))))
theorem zt_X13_typeAct_p318 {E : zE} {L : Nat} {Q : kx_Rs → wS → Prop} {x2 : Int32} {w : wS} (hL : 26 ≤ L) (h : zb_X13_typeAct_p318 E L Q x2 w) : kzE E L kt_M565 318 [(0, .ref (w_adr E.2.1 12 0)), (2, .int x2)] [] w Q := by
  unfold zb_X13_typeAct_p318 at h
  refine kz_iload_n (M := kt_M565) kX13_typeAct_c19.2.2.2.2.1 rfl ?_
  refine kz_if_lt (M := kt_M565) kX13_typeAct_c19.2.2.2.2.2.1 (t := 381) rfl h (fun h => ?_) (fun h => ?_)
  · skip
    exact kz_ret (M := kt_M565) kX13_typeAct_c24.2.1 rfl h
  · skip
    refine kz_aload_n (M := kt_M565) kX13_typeAct_c19.2.2.2.2.2.2.1 rfl ?_
    refine kz_gfc (M := kt_M565) (x := 4100) (c := 12) (o := 0) kX13_typeAct_c19.2.2.2.2.2.2.2.1 wf_X13_193 (.inl rfl) ?_
    refine kz_iload_n (M := kt_M565) kX13_typeAct_c20.1 rfl ?_
    refine kz_iald (M := kt_M565) (c := 12) (o := 0) (k := 28) (a := (E.2.1 4100)) kX13_typeAct_c20.2.1 ow_12_0_28 oa_12_0_28 ot_0 h (fun h => ?_)
    refine kz_if_lt (M := kt_M565) kX13_typeAct_c20.2.2.1 (t := 342) rfl h (fun h => ?_) (fun h => ?_)
    · skip
      exact kz_weak [(0, .ref (w_adr E.2.1 12 0)), (2, .int x2)] ⟨rfl, ⟨rfl, trivial⟩⟩ rfl (zt_X13_typeAct_p342 hL  h)
    · skip
      refine kz_aload_n (M := kt_M565) kX13_typeAct_c20.2.2.2.1 rfl ?_
      refine kz_aload_n (M := kt_M565) kX13_typeAct_c20.2.2.2.2.1 rfl ?_
      refine kz_gfc (M := kt_M565) (x := 4100) (c := 12) (o := 0) kX13_typeAct_c20.2.2.2.2.2.1 wf_X13_193 (.inl rfl) ?_
      refine kz_iload_n (M := kt_M565) kX13_typeAct_c20.2.2.2.2.2.2.1 rfl ?_
      refine kz_iald (M := kt_M565) (c := 12) (o := 0) (k := 28) (a := (E.2.1 4100)) kX13_typeAct_c20.2.2.2.2.2.2.2.1 ow_12_0_28 oa_12_0_28 ot_0 h (fun h => ?_)
      refine kz_ic (M := kt_M565) 2 kX13_typeAct_c21.1 rfl ?_
      refine kz_cv0 (M := kt_M565) (c := 12) (o := 0) (As := [.int (w_a w 12 0 28 (x2).toNatClampNeg), .int 2]) (rest := []) kX13_typeAct_c21.2.1 wl_X13_880 wMv_602 rfl (.inl rfl) rfl (Nat.le_trans (Nat.le_of_ble_eq_true rfl) hL) (Nat.le_of_ble_eq_true rfl) (Nat.le_of_ble_eq_true rfl) h (fun w1 hle h => ?_) (fun _ _ _ h => kzx_no rfl h)
      have h := h hle
      exact kz_weak [(0, .ref (w_adr E.2.1 12 0)), (2, .int x2)] ⟨rfl, ⟨rfl, trivial⟩⟩ rfl (zt_X13_typeAct_p342 hL  h)
def zb_X13_typeAct_p311 (E : zE) (L : Nat) (Q : kx_Rs → wS → Prop) (x1 : Int32) (w : wS) : Prop := (kx_inb x1 (w_n w 12 0 29) = true ∧ zL_X13_typeAct_p318 E L Q (w_a w 12 0 29 (x1).toNatClampNeg) w)
theorem zt_X13_typeAct_p311 {E : zE} {L : Nat} {Q : kx_Rs → wS → Prop} {x1 : Int32} {w : wS} (hL : 26 ≤ L) (h : zb_X13_typeAct_p311 E L Q x1 w) : kzE E L kt_M565 311 [(0, .ref (w_adr E.2.1 12 0)), (1, .int x1)] [] w Q := by
  unfold zb_X13_typeAct_p311 at h
  refine kz_aload_n (M := kt_M565) kX13_typeAct_c18.2.2.2.2.2.2.2.1 rfl ?_
  refine kz_gfc (M := kt_M565) (x := 4101) (c := 12) (o := 0) kX13_typeAct_c19.1 wf_X13_196 (.inl rfl) ?_
  refine kz_iload_n (M := kt_M565) kX13_typeAct_c19.2.1 rfl ?_
  refine kz_iald (M := kt_M565) (c := 12) (o := 0) (k := 29) (a := (E.2.1 4101)) kX13_typeAct_c19.2.2.1 ow_12_0_29 oa_12_0_29 ot_0 h (fun h => ?_)
  refine kz_sti_n (M := kt_M565) [(0, .ref (w_adr E.2.1 12 0))] kX13_typeAct_c19.2.2.2.1 (Nat.le_of_ble_eq_true rfl) ⟨⟨rfl, rfl, .inl rfl⟩, trivial⟩ rfl ?_
  exact kz_weak [(0, .ref (w_adr E.2.1 12 0)), (2, .int (w_a w 12 0 29 (x1).toNatClampNeg))] ⟨rfl, ⟨rfl, trivial⟩⟩ rfl h
def zb_X13_typeAct_p227 (E : zE) (L : Nat) (Q : kx_Rs → wS → Prop) (x2 : Int32) (w : wS) : Prop := (if x2 < 0 then Q (.inl none) w else (kx_inb x2 (w_n w 12 0 28) = true ∧ zw E (L - 23) kt_M602 [.ref (w_adr E.2.1 12 0), .int (w_a w 12 0 28 (x2).toNatClampNeg), .int 2] w (wk0 (fun w1 => wle w w1 → (kx_inb x2 (w_n w1 12 0 29) = true ∧ zw E (L - 21) kt_M571 [.ref (w_adr E.2.1 12 0), .int (w_a w1 12 0 29 (x2).toNatClampNeg)] w1 (wk0 (fun w3 => wle w1 w3 → (kx_inb x2 (w_n w3 12 0 32) = true ∧ zL_X13_typeAct_p227 E L Q (w_a w3 12 0 32 (x2).toNatClampNeg) w3)) (fun e w => Q (.inr e) w)))) (fun e w => Q (.inr e) w))))
theorem zt_X13_typeAct_p227 {E : zE} {L : Nat} {Q : kx_Rs → wS → Prop} {x2 : Int32} {w : wS} (hL : 26 ≤ L) (h : zb_X13_typeAct_p227 E L Q x2 w) : kzE E L kt_M565 227 [(0, .ref (w_adr E.2.1 12 0)), (2, .int x2)] [] w Q := by
  unfold zb_X13_typeAct_p227 at h
  refine kz_iload_n (M := kt_M565) kX13_typeAct_c12.2.2.2.1 rfl ?_
  refine kz_if_lt (M := kt_M565) kX13_typeAct_c12.2.2.2.2.1 (t := 262) rfl h (fun h => ?_) (fun h => ?_)
  · skip
    exact kz_ret (M := kt_M565) kX13_typeAct_c15.1 rfl h
  · skip
    refine kz_aload_n (M := kt_M565) kX13_typeAct_c12.2.2.2.2.2.1 rfl ?_
    refine kz_aload_n (M := kt_M565) kX13_typeAct_c12.2.2.2.2.2.2.1 rfl ?_
    refine kz_gfc (M := kt_M565) (x := 4100) (c := 12) (o := 0) kX13_typeAct_c12.2.2.2.2.2.2.2.1 wf_X13_193 (.inl rfl) ?_
    refine kz_iload_n (M := kt_M565) kX13_typeAct_c13.1 rfl ?_
    refine kz_iald (M := kt_M565) (c := 12) (o := 0) (k := 28) (a := (E.2.1 4100)) kX13_typeAct_c13.2.1 ow_12_0_28 oa_12_0_28 ot_0 h (fun h => ?_)
    refine kz_ic (M := kt_M565) 2 kX13_typeAct_c13.2.2.1 rfl ?_
    refine kz_cv0 (M := kt_M565) (c := 12) (o := 0) (As := [.int (w_a w 12 0 28 (x2).toNatClampNeg), .int 2]) (rest := []) kX13_typeAct_c13.2.2.2.1 wl_X13_880 wMv_602 rfl (.inl rfl) rfl (Nat.le_trans (Nat.le_of_ble_eq_true rfl) hL) (Nat.le_of_ble_eq_true rfl) (Nat.le_of_ble_eq_true rfl) h (fun w1 hle h => ?_) (fun _ _ _ h => kzx_no rfl h)
    have h := h hle
    refine kz_aload_n (M := kt_M565) kX13_typeAct_c13.2.2.2.2.1 rfl ?_
    refine kz_aload_n (M := kt_M565) kX13_typeAct_c13.2.2.2.2.2.1 rfl ?_
    refine kz_gfc (M := kt_M565) (x := 4101) (c := 12) (o := 0) kX13_typeAct_c13.2.2.2.2.2.2.1 wf_X13_196 (.inl rfl) ?_
    refine kz_iload_n (M := kt_M565) kX13_typeAct_c13.2.2.2.2.2.2.2.1 rfl ?_
    refine kz_iald (M := kt_M565) (c := 12) (o := 0) (k := 29) (a := (E.2.1 4101)) kX13_typeAct_c14.1 ow_12_0_29 oa_12_0_29 ot_0 h (fun h => ?_)
    refine kz_cv0 (M := kt_M565) (c := 12) (o := 0) (As := [.int (w_a w1 12 0 29 (x2).toNatClampNeg)]) (rest := []) kX13_typeAct_c14.2.1 wl_X13_910 wMv_571 rfl (.inl rfl) rfl (Nat.le_trans (Nat.le_of_ble_eq_true rfl) hL) (Nat.le_of_ble_eq_true rfl) (Nat.le_of_ble_eq_true rfl) h (fun w3 hle h => ?_) (fun _ _ _ h => kzx_no rfl h)
    have h := h hle
    refine kz_aload_n (M := kt_M565) kX13_typeAct_c14.2.2.1 rfl ?_
    refine kz_gfc (M := kt_M565) (x := 4104) (c := 12) (o := 0) kX13_typeAct_c14.2.2.2.1 wf_X13_205 (.inl rfl) ?_
    refine kz_iload_n (M := kt_M565) kX13_typeAct_c14.2.2.2.2.1 rfl ?_
    refine kz_iald (M := kt_M565) (c := 12) (o := 0) (k := 32) (a := (E.2.1 4104)) kX13_typeAct_c14.2.2.2.2.2.1 ow_12_0_32 oa_12_0_32 ot_0 h (fun h => ?_)
    refine kz_sti_n (M := kt_M565) [(0, .ref (w_adr E.2.1 12 0))] kX13_typeAct_c14.2.2.2.2.2.2.1 (Nat.le_of_ble_eq_true rfl) ⟨⟨rfl, rfl, .inl rfl⟩, trivial⟩ rfl ?_
    refine kz_goto (M := kt_M565) kX13_typeAct_c14.2.2.2.2.2.2.2.1 (t := 227) rfl ?_
    exact kz_weak [(0, .ref (w_adr E.2.1 12 0)), (2, .int (w_a w3 12 0 32 (x2).toNatClampNeg))] ⟨rfl, ⟨rfl, trivial⟩⟩ rfl h
def zb_X13_typeAct_p200 (E : zE) (L : Nat) (Q : kx_Rs → wS → Prop) (x2 : Int32) (w : wS) : Prop := (if x2 < 0 then Q (.inl none) w else zw E (L - 21) kt_M571 [.ref (w_adr E.2.1 12 0), .int x2] w (wk0 (fun w1 => wle w w1 → (kx_inb x2 (w_n w1 12 0 32) = true ∧ zL_X13_typeAct_p200 E L Q (w_a w1 12 0 32 (x2).toNatClampNeg) w1)) (fun e w => Q (.inr e) w)))
theorem zt_X13_typeAct_p200 {E : zE} {L : Nat} {Q : kx_Rs → wS → Prop} {x2 : Int32} {w : wS} (hL : 26 ≤ L) (h : zb_X13_typeAct_p200 E L Q x2 w) : kzE E L kt_M565 200 [(0, .ref (w_adr E.2.1 12 0)), (2, .int x2)] [] w Q := by
  unfold zb_X13_typeAct_p200 at h
  refine kz_iload_n (M := kt_M565) kX13_typeAct_c10.2.2.1 rfl ?_
  refine kz_if_lt (M := kt_M565) kX13_typeAct_c10.2.2.2.1 (t := 219) rfl h (fun h => ?_) (fun h => ?_)
  · skip
    exact kz_ret (M := kt_M565) kX13_typeAct_c11.2.2.2.2.2.1 rfl h
  · skip
    refine kz_aload_n (M := kt_M565) kX13_typeAct_c10.2.2.2.2.1 rfl ?_
    refine kz_iload_n (M := kt_M565) kX13_typeAct_c10.2.2.2.2.2.1 rfl ?_
    refine kz_cv0 (M := kt_M565) (c := 12) (o := 0) (As := [.int x2]) (rest := []) kX13_typeAct_c10.2.2.2.2.2.2.1 wl_X13_910 wMv_571 rfl (.inl rfl) rfl (Nat.le_trans (Nat.le_of_ble_eq_true rfl) hL) (Nat.le_of_ble_eq_true rfl) (Nat.le_of_ble_eq_true rfl) h (fun w1 hle h => ?_) (fun _ _ _ h => kzx_no rfl h)
    have h := h hle
    refine kz_aload_n (M := kt_M565) kX13_typeAct_c10.2.2.2.2.2.2.2.1 rfl ?_
    refine kz_gfc (M := kt_M565) (x := 4104) (c := 12) (o := 0) kX13_typeAct_c11.1 wf_X13_205 (.inl rfl) ?_
    refine kz_iload_n (M := kt_M565) kX13_typeAct_c11.2.1 rfl ?_
    refine kz_iald (M := kt_M565) (c := 12) (o := 0) (k := 32) (a := (E.2.1 4104)) kX13_typeAct_c11.2.2.1 ow_12_0_32 oa_12_0_32 ot_0 h (fun h => ?_)
    refine kz_sti_n (M := kt_M565) [(0, .ref (w_adr E.2.1 12 0))] kX13_typeAct_c11.2.2.2.1 (Nat.le_of_ble_eq_true rfl) ⟨⟨rfl, rfl, .inl rfl⟩, trivial⟩ rfl ?_
    refine kz_goto (M := kt_M565) kX13_typeAct_c11.2.2.2.2.1 (t := 200) rfl ?_
    exact kz_weak [(0, .ref (w_adr E.2.1 12 0)), (2, .int (w_a w1 12 0 32 (x2).toNatClampNeg))] ⟨rfl, ⟨rfl, trivial⟩⟩ rfl h
def zb_X13_typeAct_p193 (E : zE) (L : Nat) (Q : kx_Rs → wS → Prop) (x1 : Int32) (w : wS) : Prop := (kx_inb x1 (w_n w 12 0 29) = true ∧ zL_X13_typeAct_p200 E L Q (w_a w 12 0 29 (x1).toNatClampNeg) w)
theorem zt_X13_typeAct_p193 {E : zE} {L : Nat} {Q : kx_Rs → wS → Prop} {x1 : Int32} {w : wS} (hL : 26 ≤ L) (h : zb_X13_typeAct_p193 E L Q x1 w) : kzE E L kt_M565 193 [(0, .ref (w_adr E.2.1 12 0)), (1, .int x1)] [] w Q := by
  unfold zb_X13_typeAct_p193 at h
  refine kz_aload_n (M := kt_M565) kX13_typeAct_c9.2.2.2.2.2.1 rfl ?_
  refine kz_gfc (M := kt_M565) (x := 4101) (c := 12) (o := 0) kX13_typeAct_c9.2.2.2.2.2.2.1 wf_X13_196 (.inl rfl) ?_
  refine kz_iload_n (M := kt_M565) kX13_typeAct_c9.2.2.2.2.2.2.2.1 rfl ?_
  refine kz_iald (M := kt_M565) (c := 12) (o := 0) (k := 29) (a := (E.2.1 4101)) kX13_typeAct_c10.1 ow_12_0_29 oa_12_0_29 ot_0 h (fun h => ?_)
  refine kz_sti_n (M := kt_M565) [(0, .ref (w_adr E.2.1 12 0))] kX13_typeAct_c10.2.1 (Nat.le_of_ble_eq_true rfl) ⟨⟨rfl, rfl, .inl rfl⟩, trivial⟩ rfl ?_
  exact kz_weak [(0, .ref (w_adr E.2.1 12 0)), (2, .int (w_a w 12 0 29 (x1).toNatClampNeg))] ⟨rfl, ⟨rfl, trivial⟩⟩ rfl h
def zb_X13_typeAct_p190 (E : zE) (L : Nat) (Q : kx_Rs → wS → Prop) (x1 : Int32) (y0 : Int32) (y1 : Int32) (w : wS) : Prop := zw E (L - 23) kt_M585 [.ref (w_adr E.2.1 12 0), .int y1, .int y0] w (wk0 (fun w1 => wle w w1 → zb_X13_typeAct_p193 E L Q x1 w1) (fun e w => Q (.inr e) w))
theorem zt_X13_typeAct_p190 {E : zE} {L : Nat} {Q : kx_Rs → wS → Prop} {x1 : Int32} {y0 : Int32} {y1 : Int32} {w : wS} (hL : 26 ≤ L) (h : zb_X13_typeAct_p190 E L Q x1 y0 y1 w) : kzE E L kt_M565 190 [(0, .ref (w_adr E.2.1 12 0)), (1, .int x1)] [.int y0, .int y1, .ref (w_adr E.2.1 12 0)] w Q := by
  unfold zb_X13_typeAct_p190 at h
  refine kz_cv0 (M := kt_M565) (c := 12) (o := 0) (As := [.int y1, .int y0]) (rest := []) kX13_typeAct_c9.2.2.2.2.1 wl_X13_965 wMv_585 rfl (.inl rfl) rfl (Nat.le_trans (Nat.le_of_ble_eq_true rfl) hL) (Nat.le_of_ble_eq_true rfl) (Nat.le_of_ble_eq_true rfl) h (fun w1 hle h => ?_) (fun _ _ _ h => kzx_no rfl h)
  have h := h hle
  exact kz_weak [(0, .ref (w_adr E.2.1 12 0)), (1, .int x1)] ⟨rfl, ⟨rfl, trivial⟩⟩ rfl (zt_X13_typeAct_p193 hL  h)
def zb_X13_typeAct_p154 (E : zE) (L : Nat) (Q : kx_Rs → wS → Prop) (y0 : Int32) (y1 : Int32) (w : wS) : Prop := zw E (L - 26) kt_M568 [.ref (w_adr E.2.1 12 0), .int y1, .int y0] w (wk0 (fun w1 => wle w w1 → Q (.inl none) w1) (fun e w => Q (.inr e) w))
theorem zt_X13_typeAct_p154 {E : zE} {L : Nat} {Q : kx_Rs → wS → Prop} {y0 : Int32} {y1 : Int32} {w : wS} (hL : 26 ≤ L) (h : zb_X13_typeAct_p154 E L Q y0 y1 w) : kzE E L kt_M565 154 [(0, .ref (w_adr E.2.1 12 0))] [.int y0, .int y1, .ref (w_adr E.2.1 12 0)] w Q := by
  unfold zb_X13_typeAct_p154 at h
  refine kz_cv0 (M := kt_M565) (c := 12) (o := 0) (As := [.int y1, .int y0]) (rest := []) kX13_typeAct_c6.2.2.2.2.2.2.2.1 wl_X13_883 wMv_568 rfl (.inl rfl) rfl (Nat.le_trans (Nat.le_of_ble_eq_true rfl) hL) (Nat.le_of_ble_eq_true rfl) (Nat.le_of_ble_eq_true rfl) h (fun w1 hle h => ?_) (fun _ _ _ h => kzx_no rfl h)
  have h := h hle
  exact kz_ret (M := kt_M565) kX13_typeAct_c7.1 rfl h
def zb_X13_typeAct_p0 (E : zE) (L : Nat) (Q : kx_Rs → wS → Prop) (x1 : Int32) (w : wS) : Prop := (kx_inb x1 (w_n w 12 0 26) = true ∧ (if w_a w 12 0 26 (x1).toNatClampNeg = 4 then zw E (L - 26) kt_M569 [.ref (w_adr E.2.1 12 0), .int x1] w (wk0 (fun w1 => wle w w1 → Q (.inl none) w1) (fun e w => Q (.inr e) w)) else (if w_a w 12 0 26 (x1).toNatClampNeg = 5 then zw E (L - 24) kt_M578 [.ref (w_adr E.2.1 12 0), .int x1] w (wk0 (fun w3 => wle w w3 → Q (.inl none) w3) (fun e w => Q (.inr e) w)) else (if w_a w 12 0 26 (x1).toNatClampNeg = 6 then (kx_inb x1 (w_n w 12 0 28) = true ∧ zw E (L - 22) kt_M573 [.ref (w_adr E.2.1 12 0), .int (w_a w 12 0 28 (x1).toNatClampNeg)] w (wk1 (fun v6 w5 => wle w w5 → (kx_inb x1 (w_n w5 12 0 29) = true ∧ zw E (L - 23) kt_M602 [.ref (w_adr E.2.1 12 0), .int (w_a w5 12 0 29 (x1).toNatClampNeg), .int 0] w5 (wk0 (fun w7 => wle w5 w7 → Q (.inl none) w7) (fun e w => Q (.inr e) w)))) (fun e w => Q (.inr e) w))) else (if w_a w 12 0 26 (x1).toNatClampNeg = 7 then zw E (L - 26) kt_M579 [.ref (w_adr E.2.1 12 0), .int x1] w (wk0 (fun w9 => wle w w9 → Q (.inl none) w9) (fun e w => Q (.inr e) w)) else (if w_a w 12 0 26 (x1).toNatClampNeg = 8 then zw E (L - 26) kt_M583 [.ref (w_adr E.2.1 12 0), .int x1] w (wk0 (fun w11 => wle w w11 → Q (.inl none) w11) (fun e w => Q (.inr e) w)) else (if w_a w 12 0 26 (x1).toNatClampNeg = 9 then (kx_inb x1 (w_n w 12 0 31) = true ∧ (if 0 ≤ w_a w 12 0 31 (x1).toNatClampNeg then (kx_inb x1 (w_n w 12 0 31) = true ∧ (kx_inb (w_a w 12 0 31 (x1).toNatClampNeg) (w_n w 12 0 49) = true ∧ (kx_inb (w_a w 12 0 49 (w_a w 12 0 31 (x1).toNatClampNeg).toNatClampNeg) (w_n w 12 0 28) = true ∧ zb_X13_typeAct_p154 E L Q (w_a w 12 0 28 (w_a w 12 0 49 (w_a w 12 0 31 (x1).toNatClampNeg).toNatClampNeg).toNatClampNeg) x1 w))) else zb_X13_typeAct_p154 E L Q (-1) x1 w)) else (if w_a w 12 0 26 (x1).toNatClampNeg = 10 then (kx_inb x1 (w_n w 12 0 28) = true ∧ (if w_a w 12 0 28 (x1).toNatClampNeg < 0 then zb_X13_typeAct_p193 E L Q x1 w else (kx_inb x1 (w_n w 12 0 28) = true ∧ (kx_inb x1 (w_n w 12 0 26) = true ∧ (if ¬ w_a w 12 0 26 (x1).toNatClampNeg = 11 then zb_X13_typeAct_p190 E L Q x1 0 (w_a w 12 0 28 (x1).toNatClampNeg) w else zb_X13_typeAct_p190 E L Q x1 1 (w_a w 12 0 28 (x1).toNatClampNeg) w))))) else (if w_a w 12 0 26 (x1).toNatClampNeg = 11 then (kx_inb x1 (w_n w 12 0 28) = true ∧ (if w_a w 12 0 28 (x1).toNatClampNeg < 0 then zb_X13_typeAct_p193 E L Q x1 w else (kx_inb x1 (w_n w 12 0 28) = true ∧ (kx_inb x1 (w_n w 12 0 26) = true ∧ (if ¬ w_a w 12 0 26 (x1).toNatClampNeg = 11 then zb_X13_typeAct_p190 E L Q x1 0 (w_a w 12 0 28 (x1).toNatClampNeg) w else zb_X13_typeAct_p190 E L Q x1 1 (w_a w 12 0 28 (x1).toNatClampNeg) w))))) else (if w_a w 12 0 26 (x1).toNatClampNeg = 12 then (kx_inb x1 (w_n w 12 0 29) = true ∧ zL_X13_typeAct_p227 E L Q (w_a w 12 0 29 (x1).toNatClampNeg) w) else (if w_a w 12 0 26 (x1).toNatClampNeg = 14 then zw E (L - 25) kt_M572 [.ref (w_adr E.2.1 12 0), .int x1] w (wk0 (fun w13 => wle w w13 → Q (.inl none) w13) (fun e w => Q (.inr e) w)) else (if w_a w 12 0 26 (x1).toNatClampNeg = 16 then (kx_inb x1 (w_n w 12 0 28) = true ∧ zw E (L - 23) kt_M602 [.ref (w_adr E.2.1 12 0), .int (w_a w 12 0 28 (x1).toNatClampNeg), .int 2] w (wk0 (fun w15 => wle w w15 → (kx_inb x1 (w_n w15 12 0 29) = true ∧ zw E (L - 21) kt_M571 [.ref (w_adr E.2.1 12 0), .int (w_a w15 12 0 29 (x1).toNatClampNeg)] w15 (wk0 (fun w17 => wle w15 w17 → Q (.inl none) w17) (fun e w => Q (.inr e) w)))) (fun e w => Q (.inr e) w))) else (if w_a w 12 0 26 (x1).toNatClampNeg = 17 then (kx_inb x1 (w_n w 12 0 28) = true ∧ (if w_a w 12 0 28 (x1).toNatClampNeg < 0 then zb_X13_typeAct_p311 E L Q x1 w else (kx_inb x1 (w_n w 12 0 28) = true ∧ zw E (L - 23) kt_M585 [.ref (w_adr E.2.1 12 0), .int (w_a w 12 0 28 (x1).toNatClampNeg), .int 1] w (wk0 (fun w19 => wle w w19 → zb_X13_typeAct_p311 E L Q x1 w19) (fun e w => Q (.inr e) w))))) else Q (.inl none) w)))))))))))))
theorem zt_X13_typeAct_p0 {E : zE} {L : Nat} {Q : kx_Rs → wS → Prop} {x1 : Int32} {w : wS} (hL : 26 ≤ L) (h : zb_X13_typeAct_p0 E L Q x1 w) : kzE E L kt_M565 0 [(0, .ref (w_adr E.2.1 12 0)), (1, .int x1)] [] w Q := by
  unfold zb_X13_typeAct_p0 at h
  refine kz_aload_n (M := kt_M565) kX13_typeAct_c0.1 rfl ?_
  refine kz_gfc (M := kt_M565) (x := 4098) (c := 12) (o := 0) kX13_typeAct_c0.2.1 wf_X13_187 (.inl rfl) ?_
  refine kz_iload_n (M := kt_M565) kX13_typeAct_c0.2.2.1 rfl ?_
  refine kz_iald (M := kt_M565) (c := 12) (o := 0) (k := 26) (a := (E.2.1 4098)) kX13_typeAct_c0.2.2.2.1 ow_12_0_26 oa_12_0_26 ot_0 h (fun h => ?_)
  refine kz_tsw (M := kt_M565) [(4, 76), (5, 82), (6, 88), (7, 111), (8, 117), (9, 123), (10, 158), (11, 158), (12, 220), (14, 263), (16, 269), (17, 291)] [_, _, _, _, _, _, _, _, _, _, _, _] 382 dX13_typeAct_p6 (by decide +kernel) h ⟨fun h => ?_, fun h => ?_, fun h => ?_, fun h => ?_, fun h => ?_, fun h => ?_, fun h => ?_, fun h => ?_, fun h => ?_, fun h => ?_, fun h => ?_, fun h => ?_, trivial⟩ (fun h => ?_)
  · skip
    refine kz_aload_n (M := kt_M565) kX13_typeAct_c0.2.2.2.2.2.1 rfl ?_
    refine kz_iload_n (M := kt_M565) kX13_typeAct_c0.2.2.2.2.2.2.1 rfl ?_
    refine kz_cv0 (M := kt_M565) (c := 12) (o := 0) (As := [.int x1]) (rest := []) kX13_typeAct_c0.2.2.2.2.2.2.2.1 wl_X13_953 wMv_569 rfl (.inl rfl) rfl (Nat.le_trans (Nat.le_of_ble_eq_true rfl) hL) (Nat.le_of_ble_eq_true rfl) (Nat.le_of_ble_eq_true rfl) h (fun w1 hle h => ?_) (fun _ _ _ h => kzx_no rfl h)
    have h := h hle
    exact kz_ret (M := kt_M565) kX13_typeAct_c1.1 rfl h
  · skip
    refine kz_aload_n (M := kt_M565) kX13_typeAct_c1.2.1 rfl ?_
    refine kz_iload_n (M := kt_M565) kX13_typeAct_c1.2.2.1 rfl ?_
    refine kz_cv0 (M := kt_M565) (c := 12) (o := 0) (As := [.int x1]) (rest := []) kX13_typeAct_c1.2.2.2.1 wl_X13_956 wMv_578 rfl (.inl rfl) rfl (Nat.le_trans (Nat.le_of_ble_eq_true rfl) hL) (Nat.le_of_ble_eq_true rfl) (Nat.le_of_ble_eq_true rfl) h (fun w3 hle h => ?_) (fun _ _ _ h => kzx_no rfl h)
    have h := h hle
    exact kz_ret (M := kt_M565) kX13_typeAct_c1.2.2.2.2.1 rfl h
  · skip
    refine kz_aload_n (M := kt_M565) kX13_typeAct_c1.2.2.2.2.2.1 rfl ?_
    refine kz_aload_n (M := kt_M565) kX13_typeAct_c1.2.2.2.2.2.2.1 rfl ?_
    refine kz_gfc (M := kt_M565) (x := 4100) (c := 12) (o := 0) kX13_typeAct_c1.2.2.2.2.2.2.2.1 wf_X13_193 (.inl rfl) ?_
    refine kz_iload_n (M := kt_M565) kX13_typeAct_c2.1 rfl ?_
    refine kz_iald (M := kt_M565) (c := 12) (o := 0) (k := 28) (a := (E.2.1 4100)) kX13_typeAct_c2.2.1 ow_12_0_28 oa_12_0_28 ot_0 h (fun h => ?_)
    refine kz_cv1 (M := kt_M565) (c := 12) (o := 0) (As := [.int (w_a w 12 0 28 (x1).toNatClampNeg)]) (rest := []) kX13_typeAct_c2.2.2.1 wl_X13_901 wMv_573 rfl (.inl rfl) rfl (Nat.le_trans (Nat.le_of_ble_eq_true rfl) hL) (Nat.le_of_ble_eq_true rfl) (Nat.le_of_ble_eq_true rfl) h (fun v6 w5 hle h => ?_) (fun _ _ _ h => kzx_no rfl h)
    have h := h hle
    refine kz_sti_n (M := kt_M565) [(0, .ref (w_adr E.2.1 12 0)), (1, .int x1)] kX13_typeAct_c2.2.2.2.1 (Nat.le_of_ble_eq_true rfl) ⟨⟨rfl, rfl, .inl rfl⟩, ⟨⟨rfl, rfl, .inr rfl⟩, trivial⟩⟩ rfl ?_
    refine kz_aload_n (M := kt_M565) kX13_typeAct_c2.2.2.2.2.1 rfl ?_
    refine kz_aload_n (M := kt_M565) kX13_typeAct_c2.2.2.2.2.2.1 rfl ?_
    refine kz_gfc (M := kt_M565) (x := 4101) (c := 12) (o := 0) kX13_typeAct_c2.2.2.2.2.2.2.1 wf_X13_196 (.inl rfl) ?_
    refine kz_iload_n (M := kt_M565) kX13_typeAct_c2.2.2.2.2.2.2.2.1 rfl ?_
    refine kz_iald (M := kt_M565) (c := 12) (o := 0) (k := 29) (a := (E.2.1 4101)) kX13_typeAct_c3.1 ow_12_0_29 oa_12_0_29 ot_0 h (fun h => ?_)
    refine kz_ic (M := kt_M565) 0 kX13_typeAct_c3.2.1 rfl ?_
    refine kz_cv0 (M := kt_M565) (c := 12) (o := 0) (As := [.int (w_a w5 12 0 29 (x1).toNatClampNeg), .int 0]) (rest := []) kX13_typeAct_c3.2.2.1 wl_X13_880 wMv_602 rfl (.inl rfl) rfl (Nat.le_trans (Nat.le_of_ble_eq_true rfl) hL) (Nat.le_of_ble_eq_true rfl) (Nat.le_of_ble_eq_true rfl) h (fun w7 hle h => ?_) (fun _ _ _ h => kzx_no rfl h)
    have h := h hle
    exact kz_ret (M := kt_M565) kX13_typeAct_c3.2.2.2.1 rfl h
  · skip
    refine kz_aload_n (M := kt_M565) kX13_typeAct_c3.2.2.2.2.1 rfl ?_
    refine kz_iload_n (M := kt_M565) kX13_typeAct_c3.2.2.2.2.2.1 rfl ?_
    refine kz_cv0 (M := kt_M565) (c := 12) (o := 0) (As := [.int x1]) (rest := []) kX13_typeAct_c3.2.2.2.2.2.2.1 wl_X13_959 wMv_579 rfl (.inl rfl) rfl (Nat.le_trans (Nat.le_of_ble_eq_true rfl) hL) (Nat.le_of_ble_eq_true rfl) (Nat.le_of_ble_eq_true rfl) h (fun w9 hle h => ?_) (fun _ _ _ h => kzx_no rfl h)
    have h := h hle
    exact kz_ret (M := kt_M565) kX13_typeAct_c3.2.2.2.2.2.2.2.1 rfl h
  · skip
    refine kz_aload_n (M := kt_M565) kX13_typeAct_c4.1 rfl ?_
    refine kz_iload_n (M := kt_M565) kX13_typeAct_c4.2.1 rfl ?_
    refine kz_cv0 (M := kt_M565) (c := 12) (o := 0) (As := [.int x1]) (rest := []) kX13_typeAct_c4.2.2.1 wl_X13_962 wMv_583 rfl (.inl rfl) rfl (Nat.le_trans (Nat.le_of_ble_eq_true rfl) hL) (Nat.le_of_ble_eq_true rfl) (Nat.le_of_ble_eq_true rfl) h (fun w11 hle h => ?_) (fun _ _ _ h => kzx_no rfl h)
    have h := h hle
    exact kz_ret (M := kt_M565) kX13_typeAct_c4.2.2.2.1 rfl h
  · skip
    refine kz_aload_n (M := kt_M565) kX13_typeAct_c4.2.2.2.2.1 rfl ?_
    refine kz_iload_n (M := kt_M565) kX13_typeAct_c4.2.2.2.2.2.1 rfl ?_
    refine kz_aload_n (M := kt_M565) kX13_typeAct_c4.2.2.2.2.2.2.1 rfl ?_
    refine kz_gfc (M := kt_M565) (x := 4103) (c := 12) (o := 0) kX13_typeAct_c4.2.2.2.2.2.2.2.1 wf_X13_202 (.inl rfl) ?_
    refine kz_iload_n (M := kt_M565) kX13_typeAct_c5.1 rfl ?_
    refine kz_iald (M := kt_M565) (c := 12) (o := 0) (k := 31) (a := (E.2.1 4103)) kX13_typeAct_c5.2.1 ow_12_0_31 oa_12_0_31 ot_0 h (fun h => ?_)
    refine kz_if_ge (M := kt_M565) kX13_typeAct_c5.2.2.1 (t := 138) rfl h (fun h => ?_) (fun h => ?_)
    · skip
      refine kz_aload_n (M := kt_M565) kX13_typeAct_c5.2.2.2.2.2.1 rfl ?_
      refine kz_gfc (M := kt_M565) (x := 4100) (c := 12) (o := 0) kX13_typeAct_c5.2.2.2.2.2.2.1 wf_X13_193 (.inl rfl) ?_
      refine kz_aload_n (M := kt_M565) kX13_typeAct_c5.2.2.2.2.2.2.2.1 rfl ?_
      refine kz_gfc (M := kt_M565) (x := 4121) (c := 12) (o := 0) kX13_typeAct_c6.1 wf_X13_232 (.inl rfl) ?_
      refine kz_aload_n (M := kt_M565) kX13_typeAct_c6.2.1 rfl ?_
      refine kz_gfc (M := kt_M565) (x := 4103) (c := 12) (o := 0) kX13_typeAct_c6.2.2.1 wf_X13_202 (.inl rfl) ?_
      refine kz_iload_n (M := kt_M565) kX13_typeAct_c6.2.2.2.1 rfl ?_
      refine kz_iald (M := kt_M565) (c := 12) (o := 0) (k := 31) (a := (E.2.1 4103)) kX13_typeAct_c6.2.2.2.2.1 ow_12_0_31 oa_12_0_31 ot_0 h (fun h => ?_)
      refine kz_iald (M := kt_M565) (c := 12) (o := 0) (k := 49) (a := (E.2.1 4121)) kX13_typeAct_c6.2.2.2.2.2.1 ow_12_0_49 oa_12_0_49 ot_0 h (fun h => ?_)
      refine kz_iald (M := kt_M565) (c := 12) (o := 0) (k := 28) (a := (E.2.1 4100)) kX13_typeAct_c6.2.2.2.2.2.2.1 ow_12_0_28 oa_12_0_28 ot_0 h (fun h => ?_)
      exact kz_weak [(0, .ref (w_adr E.2.1 12 0))] ⟨rfl, trivial⟩ rfl (zt_X13_typeAct_p154 hL  h)
    · skip
      refine kz_ic (M := kt_M565) (-1) kX13_typeAct_c5.2.2.2.1 rfl ?_
      refine kz_goto (M := kt_M565) kX13_typeAct_c5.2.2.2.2.1 (t := 154) rfl ?_
      exact kz_weak [(0, .ref (w_adr E.2.1 12 0))] ⟨rfl, trivial⟩ rfl (zt_X13_typeAct_p154 hL  h)
  · skip
    refine kz_aload_n (M := kt_M565) kX13_typeAct_c7.2.1 rfl ?_
    refine kz_gfc (M := kt_M565) (x := 4100) (c := 12) (o := 0) kX13_typeAct_c7.2.2.1 wf_X13_193 (.inl rfl) ?_
    refine kz_iload_n (M := kt_M565) kX13_typeAct_c7.2.2.2.1 rfl ?_
    refine kz_iald (M := kt_M565) (c := 12) (o := 0) (k := 28) (a := (E.2.1 4100)) kX13_typeAct_c7.2.2.2.2.1 ow_12_0_28 oa_12_0_28 ot_0 h (fun h => ?_)
    refine kz_if_lt (M := kt_M565) kX13_typeAct_c7.2.2.2.2.2.1 (t := 193) rfl h (fun h => ?_) (fun h => ?_)
    · skip
      exact kz_weak [(0, .ref (w_adr E.2.1 12 0)), (1, .int x1)] ⟨rfl, ⟨rfl, trivial⟩⟩ rfl (zt_X13_typeAct_p193 hL  h)
    · skip
      refine kz_aload_n (M := kt_M565) kX13_typeAct_c7.2.2.2.2.2.2.1 rfl ?_
      refine kz_aload_n (M := kt_M565) kX13_typeAct_c7.2.2.2.2.2.2.2.1 rfl ?_
      refine kz_gfc (M := kt_M565) (x := 4100) (c := 12) (o := 0) kX13_typeAct_c8.1 wf_X13_193 (.inl rfl) ?_
      refine kz_iload_n (M := kt_M565) kX13_typeAct_c8.2.1 rfl ?_
      refine kz_iald (M := kt_M565) (c := 12) (o := 0) (k := 28) (a := (E.2.1 4100)) kX13_typeAct_c8.2.2.1 ow_12_0_28 oa_12_0_28 ot_0 h (fun h => ?_)
      refine kz_aload_n (M := kt_M565) kX13_typeAct_c8.2.2.2.1 rfl ?_
      refine kz_gfc (M := kt_M565) (x := 4098) (c := 12) (o := 0) kX13_typeAct_c8.2.2.2.2.1 wf_X13_187 (.inl rfl) ?_
      refine kz_iload_n (M := kt_M565) kX13_typeAct_c8.2.2.2.2.2.1 rfl ?_
      refine kz_iald (M := kt_M565) (c := 12) (o := 0) (k := 26) (a := (E.2.1 4098)) kX13_typeAct_c8.2.2.2.2.2.2.1 ow_12_0_26 oa_12_0_26 ot_0 h (fun h => ?_)
      refine kz_bi (M := kt_M565) 11 kX13_typeAct_c8.2.2.2.2.2.2.2.1 rfl ?_
      refine kz_icmp_ne (M := kt_M565) kX13_typeAct_c9.1 (t := 189) rfl h (fun h => ?_) (fun h => ?_)
      · skip
        refine kz_ic (M := kt_M565) 0 kX13_typeAct_c9.2.2.2.1 rfl ?_
        exact kz_weak [(0, .ref (w_adr E.2.1 12 0)), (1, .int x1)] ⟨rfl, ⟨rfl, trivial⟩⟩ rfl (zt_X13_typeAct_p190 hL  h)
      · skip
        refine kz_ic (M := kt_M565) 1 kX13_typeAct_c9.2.1 rfl ?_
        refine kz_goto (M := kt_M565) kX13_typeAct_c9.2.2.1 (t := 190) rfl ?_
        exact kz_weak [(0, .ref (w_adr E.2.1 12 0)), (1, .int x1)] ⟨rfl, ⟨rfl, trivial⟩⟩ rfl (zt_X13_typeAct_p190 hL  h)
  · skip
    refine kz_aload_n (M := kt_M565) kX13_typeAct_c7.2.1 rfl ?_
    refine kz_gfc (M := kt_M565) (x := 4100) (c := 12) (o := 0) kX13_typeAct_c7.2.2.1 wf_X13_193 (.inl rfl) ?_
    refine kz_iload_n (M := kt_M565) kX13_typeAct_c7.2.2.2.1 rfl ?_
    refine kz_iald (M := kt_M565) (c := 12) (o := 0) (k := 28) (a := (E.2.1 4100)) kX13_typeAct_c7.2.2.2.2.1 ow_12_0_28 oa_12_0_28 ot_0 h (fun h => ?_)
    refine kz_if_lt (M := kt_M565) kX13_typeAct_c7.2.2.2.2.2.1 (t := 193) rfl h (fun h => ?_) (fun h => ?_)
    · skip
      exact kz_weak [(0, .ref (w_adr E.2.1 12 0)), (1, .int x1)] ⟨rfl, ⟨rfl, trivial⟩⟩ rfl (zt_X13_typeAct_p193 hL  h)
    · skip
      refine kz_aload_n (M := kt_M565) kX13_typeAct_c7.2.2.2.2.2.2.1 rfl ?_
      refine kz_aload_n (M := kt_M565) kX13_typeAct_c7.2.2.2.2.2.2.2.1 rfl ?_
      refine kz_gfc (M := kt_M565) (x := 4100) (c := 12) (o := 0) kX13_typeAct_c8.1 wf_X13_193 (.inl rfl) ?_
      refine kz_iload_n (M := kt_M565) kX13_typeAct_c8.2.1 rfl ?_
      refine kz_iald (M := kt_M565) (c := 12) (o := 0) (k := 28) (a := (E.2.1 4100)) kX13_typeAct_c8.2.2.1 ow_12_0_28 oa_12_0_28 ot_0 h (fun h => ?_)
      refine kz_aload_n (M := kt_M565) kX13_typeAct_c8.2.2.2.1 rfl ?_
      refine kz_gfc (M := kt_M565) (x := 4098) (c := 12) (o := 0) kX13_typeAct_c8.2.2.2.2.1 wf_X13_187 (.inl rfl) ?_
      refine kz_iload_n (M := kt_M565) kX13_typeAct_c8.2.2.2.2.2.1 rfl ?_
      refine kz_iald (M := kt_M565) (c := 12) (o := 0) (k := 26) (a := (E.2.1 4098)) kX13_typeAct_c8.2.2.2.2.2.2.1 ow_12_0_26 oa_12_0_26 ot_0 h (fun h => ?_)
      refine kz_bi (M := kt_M565) 11 kX13_typeAct_c8.2.2.2.2.2.2.2.1 rfl ?_
      refine kz_icmp_ne (M := kt_M565) kX13_typeAct_c9.1 (t := 189) rfl h (fun h => ?_) (fun h => ?_)
      · skip
        refine kz_ic (M := kt_M565) 0 kX13_typeAct_c9.2.2.2.1 rfl ?_
        exact kz_weak [(0, .ref (w_adr E.2.1 12 0)), (1, .int x1)] ⟨rfl, ⟨rfl, trivial⟩⟩ rfl (zt_X13_typeAct_p190 hL  h)
      · skip
        refine kz_ic (M := kt_M565) 1 kX13_typeAct_c9.2.1 rfl ?_
        refine kz_goto (M := kt_M565) kX13_typeAct_c9.2.2.1 (t := 190) rfl ?_
        exact kz_weak [(0, .ref (w_adr E.2.1 12 0)), (1, .int x1)] ⟨rfl, ⟨rfl, trivial⟩⟩ rfl (zt_X13_typeAct_p190 hL  h)
  · skip
    refine kz_aload_n (M := kt_M565) kX13_typeAct_c11.2.2.2.2.2.2.1 rfl ?_
    refine kz_gfc (M := kt_M565) (x := 4101) (c := 12) (o := 0) kX13_typeAct_c11.2.2.2.2.2.2.2.1 wf_X13_196 (.inl rfl) ?_
    refine kz_iload_n (M := kt_M565) kX13_typeAct_c12.1 rfl ?_
    refine kz_iald (M := kt_M565) (c := 12) (o := 0) (k := 29) (a := (E.2.1 4101)) kX13_typeAct_c12.2.1 ow_12_0_29 oa_12_0_29 ot_0 h (fun h => ?_)
    refine kz_sti_n (M := kt_M565) [(0, .ref (w_adr E.2.1 12 0))] kX13_typeAct_c12.2.2.1 (Nat.le_of_ble_eq_true rfl) ⟨⟨rfl, rfl, .inl rfl⟩, trivial⟩ rfl ?_
    exact kz_weak [(0, .ref (w_adr E.2.1 12 0)), (2, .int (w_a w 12 0 29 (x1).toNatClampNeg))] ⟨rfl, ⟨rfl, trivial⟩⟩ rfl h
  · skip
    refine kz_aload_n (M := kt_M565) kX13_typeAct_c15.2.1 rfl ?_
    refine kz_iload_n (M := kt_M565) kX13_typeAct_c15.2.2.1 rfl ?_
    refine kz_cv0 (M := kt_M565) (c := 12) (o := 0) (As := [.int x1]) (rest := []) kX13_typeAct_c15.2.2.2.1 wl_X13_968 wMv_572 rfl (.inl rfl) rfl (Nat.le_trans (Nat.le_of_ble_eq_true rfl) hL) (Nat.le_of_ble_eq_true rfl) (Nat.le_of_ble_eq_true rfl) h (fun w13 hle h => ?_) (fun _ _ _ h => kzx_no rfl h)
    have h := h hle
    exact kz_ret (M := kt_M565) kX13_typeAct_c15.2.2.2.2.1 rfl h
  · skip
    refine kz_aload_n (M := kt_M565) kX13_typeAct_c15.2.2.2.2.2.1 rfl ?_
    refine kz_aload_n (M := kt_M565) kX13_typeAct_c15.2.2.2.2.2.2.1 rfl ?_
    refine kz_gfc (M := kt_M565) (x := 4100) (c := 12) (o := 0) kX13_typeAct_c15.2.2.2.2.2.2.2.1 wf_X13_193 (.inl rfl) ?_
    refine kz_iload_n (M := kt_M565) kX13_typeAct_c16.1 rfl ?_
    refine kz_iald (M := kt_M565) (c := 12) (o := 0) (k := 28) (a := (E.2.1 4100)) kX13_typeAct_c16.2.1 ow_12_0_28 oa_12_0_28 ot_0 h (fun h => ?_)
    refine kz_ic (M := kt_M565) 2 kX13_typeAct_c16.2.2.1 rfl ?_
    refine kz_cv0 (M := kt_M565) (c := 12) (o := 0) (As := [.int (w_a w 12 0 28 (x1).toNatClampNeg), .int 2]) (rest := []) kX13_typeAct_c16.2.2.2.1 wl_X13_880 wMv_602 rfl (.inl rfl) rfl (Nat.le_trans (Nat.le_of_ble_eq_true rfl) hL) (Nat.le_of_ble_eq_true rfl) (Nat.le_of_ble_eq_true rfl) h (fun w15 hle h => ?_) (fun _ _ _ h => kzx_no rfl h)
    have h := h hle
    refine kz_aload_n (M := kt_M565) kX13_typeAct_c16.2.2.2.2.1 rfl ?_
    refine kz_aload_n (M := kt_M565) kX13_typeAct_c16.2.2.2.2.2.1 rfl ?_
    refine kz_gfc (M := kt_M565) (x := 4101) (c := 12) (o := 0) kX13_typeAct_c16.2.2.2.2.2.2.1 wf_X13_196 (.inl rfl) ?_
    refine kz_iload_n (M := kt_M565) kX13_typeAct_c16.2.2.2.2.2.2.2.1 rfl ?_
    refine kz_iald (M := kt_M565) (c := 12) (o := 0) (k := 29) (a := (E.2.1 4101)) kX13_typeAct_c17.1 ow_12_0_29 oa_12_0_29 ot_0 h (fun h => ?_)
    refine kz_cv0 (M := kt_M565) (c := 12) (o := 0) (As := [.int (w_a w15 12 0 29 (x1).toNatClampNeg)]) (rest := []) kX13_typeAct_c17.2.1 wl_X13_910 wMv_571 rfl (.inl rfl) rfl (Nat.le_trans (Nat.le_of_ble_eq_true rfl) hL) (Nat.le_of_ble_eq_true rfl) (Nat.le_of_ble_eq_true rfl) h (fun w17 hle h => ?_) (fun _ _ _ h => kzx_no rfl h)
    have h := h hle
    exact kz_ret (M := kt_M565) kX13_typeAct_c17.2.2.1 rfl h
  · skip
    refine kz_aload_n (M := kt_M565) kX13_typeAct_c17.2.2.2.1 rfl ?_
    refine kz_gfc (M := kt_M565) (x := 4100) (c := 12) (o := 0) kX13_typeAct_c17.2.2.2.2.1 wf_X13_193 (.inl rfl) ?_
    refine kz_iload_n (M := kt_M565) kX13_typeAct_c17.2.2.2.2.2.1 rfl ?_
    refine kz_iald (M := kt_M565) (c := 12) (o := 0) (k := 28) (a := (E.2.1 4100)) kX13_typeAct_c17.2.2.2.2.2.2.1 ow_12_0_28 oa_12_0_28 ot_0 h (fun h => ?_)
    refine kz_if_lt (M := kt_M565) kX13_typeAct_c17.2.2.2.2.2.2.2.1 (t := 311) rfl h (fun h => ?_) (fun h => ?_)
    · skip
      exact kz_weak [(0, .ref (w_adr E.2.1 12 0)), (1, .int x1)] ⟨rfl, ⟨rfl, trivial⟩⟩ rfl (zt_X13_typeAct_p311 hL  h)
    · skip
      refine kz_aload_n (M := kt_M565) kX13_typeAct_c18.1 rfl ?_
      refine kz_aload_n (M := kt_M565) kX13_typeAct_c18.2.1 rfl ?_
      refine kz_gfc (M := kt_M565) (x := 4100) (c := 12) (o := 0) kX13_typeAct_c18.2.2.1 wf_X13_193 (.inl rfl) ?_
      refine kz_iload_n (M := kt_M565) kX13_typeAct_c18.2.2.2.1 rfl ?_
      refine kz_iald (M := kt_M565) (c := 12) (o := 0) (k := 28) (a := (E.2.1 4100)) kX13_typeAct_c18.2.2.2.2.1 ow_12_0_28 oa_12_0_28 ot_0 h (fun h => ?_)
      refine kz_ic (M := kt_M565) 1 kX13_typeAct_c18.2.2.2.2.2.1 rfl ?_
      refine kz_cv0 (M := kt_M565) (c := 12) (o := 0) (As := [.int (w_a w 12 0 28 (x1).toNatClampNeg), .int 1]) (rest := []) kX13_typeAct_c18.2.2.2.2.2.2.1 wl_X13_965 wMv_585 rfl (.inl rfl) rfl (Nat.le_trans (Nat.le_of_ble_eq_true rfl) hL) (Nat.le_of_ble_eq_true rfl) (Nat.le_of_ble_eq_true rfl) h (fun w19 hle h => ?_) (fun _ _ _ h => kzx_no rfl h)
      have h := h hle
      exact kz_weak [(0, .ref (w_adr E.2.1 12 0)), (1, .int x1)] ⟨rfl, ⟨rfl, trivial⟩⟩ rfl (zt_X13_typeAct_p311 hL  h)
  · skip
    exact kz_ret (M := kt_M565) kX13_typeAct_c24.2.2.1 rfl h
