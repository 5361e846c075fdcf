/-! ===== methods over the typed state (printed by tools/gen_lift.py) ===== -/
set_option maxRecDepth 100000
def zL_X13_key_p104 (E : zE) (L : Nat) (Q : kx_Rs → wS → Prop) (x2 : Int32) (w : wS) : Prop := kzE E L kt_M453 104 [(0, .ref (w_adr E.2.1 12 0)), (2, .int x2)] [] w Q
def zL_X13_key_p50 (E : zE) (L : Nat) (Q : kx_Rs → wS → Prop) (x2 : Int32) (w : wS) : Prop := kzE E L kt_M453 50 [(0, .ref (w_adr E.2.1 12 0)), (2, .int x2)] [] w Q
def zb_X13_key_p156 (E : zE) (L : Nat) (Q : kx_Rs → wS → Prop) (x2 : Int32) (w : wS) : Prop := zL_X13_key_p104 E L Q (x2 + 1) w
theorem zt_X13_key_p156 {E : zE} {L : Nat} {Q : kx_Rs → wS → Prop} {x2 : Int32} {w : wS} (hL : 23 ≤ L) (h : zb_X13_key_p156 E L Q x2 w) : kzE E L kt_M453 156 [(0, .ref (w_adr E.2.1 12 0)), (2, .int x2)] [] w Q := by
  unfold zb_X13_key_p156 at h
  refine kz_inc (M := kt_M453) [(0, .ref (w_adr E.2.1 12 0))] kX13_key_c11.2.1 rfl (Nat.le_of_ble_eq_true rfl) ⟨⟨rfl, rfl, .inl rfl⟩, trivial⟩ rfl ?_
  refine kz_goto (M := kt_M453) kX13_key_c11.2.2.1 (t := 104) rfl ?_
  exact kz_weak [(0, .ref (w_adr E.2.1 12 0)), (2, .int (x2 + 1))] ⟨rfl, ⟨rfl, trivial⟩⟩ rfl h
def zb_X13_key_p104 (E : zE) (L : Nat) (Q : kx_Rs → wS → Prop) (x2 : Int32) (w : wS) : Prop := (if w_i w 12 0 143 ≤ x2 then Q (.inl (some (.int 1))) w else (kx_inb x2 (w_n w 12 0 144) = true ∧ (kx_inb (w_a w 12 0 144 (x2).toNatClampNeg) (w_n w 12 0 147) = true ∧ (if ¬ w_a w 12 0 147 (w_a w 12 0 144 (x2).toNatClampNeg).toNatClampNeg = 3 then zb_X13_key_p156 E L Q x2 w else (kx_inb x2 (w_n w 12 0 144) = true ∧ zw E (L - 23) kt_M425 [.ref (w_adr E.2.1 12 0), .int (w_a w 12 0 144 (x2).toNatClampNeg), .int (w_i w 12 0 140)] w (wk1 (fun v2 w1 => wle w w1 → (if v2 = 0 then zb_X13_key_p156 E L Q x2 w1 else (kx_inb x2 (w_n w1 12 0 144) = true ∧ (kx_inb (w_a w1 12 0 144 (x2).toNatClampNeg) (w_n w1 12 0 147) = true ∧ zb_X13_key_p156 E L Q x2 (ws_a w1 12 0 147 (w_a w1 12 0 144 (x2).toNatClampNeg).toNatClampNeg 0))))) (fun e w => Q (.inr e) w)))))))
theorem zt_X13_key_p104 {E : zE} {L : Nat} {Q : kx_Rs → wS → Prop} {x2 : Int32} {w : wS} (hL : 23 ≤ L) (h : zb_X13_key_p104 E L Q x2 w) : kzE E L kt_M453 104 [(0, .ref (w_adr E.2.1 12 0)), (2, .int x2)] [] w Q := by
  unfold zb_X13_key_p104 at h
  refine kz_iload_n (M := kt_M453) kX13_key_c7.2.2.2.1 rfl ?_
  refine kz_aload_n (M := kt_M453) kX13_key_c7.2.2.2.2.1 rfl ?_
  refine kz_gfi (M := kt_M453) (c := 12) (o := 0) kX13_key_c7.2.2.2.2.2.1 wf_X13_1186 (.inl rfl) ?_
  refine kz_icmp_ge (M := kt_M453) kX13_key_c7.2.2.2.2.2.2.1 (t := 162) rfl h (fun h => ?_) (fun h => ?_)
  · skip
    refine kz_ic (M := kt_M453) 1 kX13_key_c11.2.2.2.1 rfl ?_
    exact kz_iretz (M := kt_M453) kX13_key_c11.2.2.2.2.1 rfl (by decide) h
  · skip
    refine kz_aload_n (M := kt_M453) kX13_key_c7.2.2.2.2.2.2.2.1 rfl ?_
    refine kz_gfc (M := kt_M453) (x := 4219) (c := 12) (o := 0) kX13_key_c8.1 wf_X13_394 (.inl rfl) ?_
    refine kz_aload_n (M := kt_M453) kX13_key_c8.2.1 rfl ?_
    refine kz_gfc (M := kt_M453) (x := 4216) (c := 12) (o := 0) kX13_key_c8.2.2.1 wf_X13_385 (.inl rfl) ?_
    refine kz_iload_n (M := kt_M453) kX13_key_c8.2.2.2.1 rfl ?_
    refine kz_iald (M := kt_M453) (c := 12) (o := 0) (k := 144) (a := (E.2.1 4216)) kX13_key_c8.2.2.2.2.1 ow_12_0_144 oa_12_0_144 ot_0 h (fun h => ?_)
    refine kz_iald (M := kt_M453) (c := 12) (o := 0) (k := 147) (a := (E.2.1 4219)) kX13_key_c8.2.2.2.2.2.1 ow_12_0_147 oa_12_0_147 ot_0 h (fun h => ?_)
    refine kz_ic (M := kt_M453) 3 kX13_key_c8.2.2.2.2.2.2.1 rfl ?_
    refine kz_icmp_ne (M := kt_M453) kX13_key_c8.2.2.2.2.2.2.2.1 (t := 156) rfl h (fun h => ?_) (fun h => ?_)
    · skip
      exact kz_weak [(0, .ref (w_adr E.2.1 12 0)), (2, .int x2)] ⟨rfl, ⟨rfl, trivial⟩⟩ rfl (zt_X13_key_p156 hL  h)
    · skip
      refine kz_aload_n (M := kt_M453) kX13_key_c9.1 rfl ?_
      refine kz_aload_n (M := kt_M453) kX13_key_c9.2.1 rfl ?_
      refine kz_gfc (M := kt_M453) (x := 4216) (c := 12) (o := 0) kX13_key_c9.2.2.1 wf_X13_385 (.inl rfl) ?_
      refine kz_iload_n (M := kt_M453) kX13_key_c9.2.2.2.1 rfl ?_
      refine kz_iald (M := kt_M453) (c := 12) (o := 0) (k := 144) (a := (E.2.1 4216)) kX13_key_c9.2.2.2.2.1 ow_12_0_144 oa_12_0_144 ot_0 h (fun h => ?_)
      refine kz_aload_n (M := kt_M453) kX13_key_c9.2.2.2.2.2.1 rfl ?_
      refine kz_gfi (M := kt_M453) (c := 12) (o := 0) kX13_key_c9.2.2.2.2.2.2.1 wf_X13_1410 (.inl rfl) ?_
      refine kz_cv1 (M := kt_M453) (c := 12) (o := 0) (As := [.int (w_a w 12 0 144 (x2).toNatClampNeg), .int (w_i w 12 0 140)]) (rest := []) kX13_key_c9.2.2.2.2.2.2.2.1 wl_X13_1419 wMv_425 rfl (.inl rfl) rfl (Nat.le_trans (Nat.le_of_ble_eq_true rfl) hL) (Nat.le_of_ble_eq_true rfl) (Nat.le_of_ble_eq_true rfl) h (fun v2 w1 hle h => ?_) (fun _ _ _ h => kzx_no rfl h)
      have h := h hle
      refine kz_if_eq (M := kt_M453) kX13_key_c10.1 (t := 156) rfl h (fun h => ?_) (fun h => ?_)
      · skip
        exact kz_weak [(0, .ref (w_adr E.2.1 12 0)), (2, .int x2)] ⟨rfl, ⟨rfl, trivial⟩⟩ rfl (zt_X13_key_p156 hL  h)
      · skip
        refine kz_aload_n (M := kt_M453) kX13_key_c10.2.1 rfl ?_
        refine kz_gfc (M := kt_M453) (x := 4219) (c := 12) (o := 0) kX13_key_c10.2.2.1 wf_X13_394 (.inl rfl) ?_
        refine kz_aload_n (M := kt_M453) kX13_key_c10.2.2.2.1 rfl ?_
        refine kz_gfc (M := kt_M453) (x := 4216) (c := 12) (o := 0) kX13_key_c10.2.2.2.2.1 wf_X13_385 (.inl rfl) ?_
        refine kz_iload_n (M := kt_M453) kX13_key_c10.2.2.2.2.2.1 rfl ?_
        refine kz_iald (M := kt_M453) (c := 12) (o := 0) (k := 144) (a := (E.2.1 4216)) kX13_key_c10.2.2.2.2.2.2.1 ow_12_0_144 oa_12_0_144 ot_0 h (fun h => ?_)
        refine kz_ic (M := kt_M453) 0 kX13_key_c10.2.2.2.2.2.2.2.1 rfl ?_
        refine kz_iast (M := kt_M453) (c := 12) (o := 0) (k := 147) (a := (E.2.1 4219)) kX13_key_c11.1 ow_12_0_147 oa_12_0_147 ot_0 h (fun h => ?_)
        exact kz_weak [(0, .ref (w_adr E.2.1 12 0)), (2, .int x2)] ⟨rfl, ⟨rfl, trivial⟩⟩ rfl (zt_X13_key_p156 hL  h)
def zb_X13_key_p50 (E : zE) (L : Nat) (Q : kx_Rs → wS → Prop) (x2 : Int32) (w : wS) : Prop := (if w_i w 12 0 143 ≤ x2 then zL_X13_key_p104 E L Q 0 w else (kx_inb x2 (w_n w 12 0 144) = true ∧ (kx_inb (w_a w 12 0 144 (x2).toNatClampNeg) (w_n w 12 0 147) = true ∧ (if ¬ w_a w 12 0 147 (w_a w 12 0 144 (x2).toNatClampNeg).toNatClampNeg = 6 then zL_X13_key_p50 E L Q (x2 + 1) w else zw E (L - 21) kt_M460 [.ref (w_adr E.2.1 12 0), .int (w_a w 12 0 144 (x2).toNatClampNeg)] (ws_i w 12 0 133 0) (wk0 (fun w1 => wle (ws_i w 12 0 133 0) w1 → zw E (L - 22) kt_M552 [.ref (w_adr E.2.1 12 0)] w1 (wk0 (fun w3 => wle w1 w3 → zw E (L - 21) kt_M513 [.ref (w_adr E.2.1 12 0)] w3 (wk0 (fun w5 => wle w3 w5 → Q (.inl (some (.int 1))) w5) (fun e w => Q (.inr e) w))) (fun e w => Q (.inr e) w))) (fun e w => Q (.inr e) w))))))
theorem zt_X13_key_p50 {E : zE} {L : Nat} {Q : kx_Rs → wS → Prop} {x2 : Int32} {w : wS} (hL : 23 ≤ L) (h : zb_X13_key_p50 E L Q x2 w) : kzE E L kt_M453 50 [(0, .ref (w_adr E.2.1 12 0)), (2, .int x2)] [] w Q := by
  unfold zb_X13_key_p50 at h
  refine kz_iload_n (M := kt_M453) kX13_key_c3.2.2.2.2.1 rfl ?_
  refine kz_aload_n (M := kt_M453) kX13_key_c3.2.2.2.2.2.1 rfl ?_
  refine kz_gfi (M := kt_M453) (c := 12) (o := 0) kX13_key_c3.2.2.2.2.2.2.1 wf_X13_1186 (.inl rfl) ?_
  refine kz_icmp_ge (M := kt_M453) kX13_key_c3.2.2.2.2.2.2.2.1 (t := 102) rfl h (fun h => ?_) (fun h => ?_)
  · skip
    refine kz_ic (M := kt_M453) 0 kX13_key_c7.2.1 rfl ?_
    refine kz_sti_n (M := kt_M453) [(0, .ref (w_adr E.2.1 12 0))] kX13_key_c7.2.2.1 (Nat.le_of_ble_eq_true rfl) ⟨⟨rfl, rfl, .inl rfl⟩, trivial⟩ rfl ?_
    exact kz_weak [(0, .ref (w_adr E.2.1 12 0)), (2, .int 0)] ⟨rfl, ⟨rfl, trivial⟩⟩ rfl h
  · skip
    refine kz_aload_n (M := kt_M453) kX13_key_c4.1 rfl ?_
    refine kz_gfc (M := kt_M453) (x := 4216) (c := 12) (o := 0) kX13_key_c4.2.1 wf_X13_385 (.inl rfl) ?_
    refine kz_iload_n (M := kt_M453) kX13_key_c4.2.2.1 rfl ?_
    refine kz_iald (M := kt_M453) (c := 12) (o := 0) (k := 144) (a := (E.2.1 4216)) kX13_key_c4.2.2.2.1 ow_12_0_144 oa_12_0_144 ot_0 h (fun h => ?_)
    refine kz_sti_n (M := kt_M453) [(0, .ref (w_adr E.2.1 12 0)), (2, .int x2)] kX13_key_c4.2.2.2.2.1 (Nat.le_of_ble_eq_true rfl) ⟨⟨rfl, rfl, .inl rfl⟩, ⟨⟨rfl, rfl, .inr rfl⟩, trivial⟩⟩ rfl ?_
    refine kz_aload_n (M := kt_M453) kX13_key_c4.2.2.2.2.2.1 rfl ?_
    refine kz_gfc (M := kt_M453) (x := 4219) (c := 12) (o := 0) kX13_key_c4.2.2.2.2.2.2.1 wf_X13_394 (.inl rfl) ?_
    refine kz_iload_n (M := kt_M453) kX13_key_c4.2.2.2.2.2.2.2.1 rfl ?_
    refine kz_iald (M := kt_M453) (c := 12) (o := 0) (k := 147) (a := (E.2.1 4219)) kX13_key_c5.1 ow_12_0_147 oa_12_0_147 ot_0 h (fun h => ?_)
    refine kz_bi (M := kt_M453) 6 kX13_key_c5.2.1 rfl ?_
    refine kz_icmp_ne (M := kt_M453) kX13_key_c5.2.2.1 (t := 96) rfl h (fun h => ?_) (fun h => ?_)
    · skip
      refine kz_inc (M := kt_M453) [(0, .ref (w_adr E.2.1 12 0))] kX13_key_c6.2.2.2.2.2.2.2.1 rfl (Nat.le_of_ble_eq_true rfl) ⟨⟨rfl, rfl, .inl rfl⟩, trivial⟩ rfl ?_
      refine kz_goto (M := kt_M453) kX13_key_c7.1 (t := 50) rfl ?_
      exact kz_weak [(0, .ref (w_adr E.2.1 12 0)), (2, .int (x2 + 1))] ⟨rfl, ⟨rfl, trivial⟩⟩ rfl h
    · skip
      refine kz_aload_n (M := kt_M453) kX13_key_c5.2.2.2.1 rfl ?_
      refine kz_ic (M := kt_M453) 0 kX13_key_c5.2.2.2.2.1 rfl ?_
      refine kz_pfi (M := kt_M453) (c := 12) (o := 0) kX13_key_c5.2.2.2.2.2.1 wq_X13_1260 (.inl rfl) ?_
      refine kz_aload_n (M := kt_M453) kX13_key_c5.2.2.2.2.2.2.1 rfl ?_
      refine kz_iload_n (M := kt_M453) kX13_key_c5.2.2.2.2.2.2.2.1 rfl ?_
      refine kz_cv0 (M := kt_M453) (c := 12) (o := 0) (As := [.int (w_a w 12 0 144 (x2).toNatClampNeg)]) (rest := []) kX13_key_c6.1 wl_X13_1331 wMv_460 rfl (.inl rfl) rfl (Nat.le_trans (Nat.le_of_ble_eq_true rfl) hL) (Nat.le_of_ble_eq_true rfl) (Nat.le_of_ble_eq_true rfl) h (fun w1 hle h => ?_) (fun _ _ _ h => kzx_no rfl h)
      have h := h hle
      refine kz_aload_n (M := kt_M453) kX13_key_c6.2.1 rfl ?_
      refine kz_cv0 (M := kt_M453) (c := 12) (o := 0) (As := []) (rest := []) kX13_key_c6.2.2.1 wl_X13_1451 wMv_552 rfl (.inl rfl) rfl (Nat.le_trans (Nat.le_of_ble_eq_true rfl) hL) (Nat.le_of_ble_eq_true rfl) (Nat.le_of_ble_eq_true rfl) h (fun w3 hle h => ?_) (fun _ _ _ h => kzx_no rfl h)
      have h := h hle
      refine kz_aload_n (M := kt_M453) kX13_key_c6.2.2.2.1 rfl ?_
      refine kz_cv0 (M := kt_M453) (c := 12) (o := 0) (As := []) (rest := []) kX13_key_c6.2.2.2.2.1 wl_X13_1334 wMv_513 rfl (.inl rfl) rfl (Nat.le_trans (Nat.le_of_ble_eq_true rfl) hL) (Nat.le_of_ble_eq_true rfl) (Nat.le_of_ble_eq_true rfl) h (fun w5 hle h => ?_) (fun _ _ _ h => kzx_no rfl h)
      have h := h hle
      refine kz_ic (M := kt_M453) 1 kX13_key_c6.2.2.2.2.2.1 rfl ?_
      exact kz_iretz (M := kt_M453) kX13_key_c6.2.2.2.2.2.2.1 rfl (by decide) h
def zb_X13_key_p22 (E : zE) (L : Nat) (Q : kx_Rs → wS → Prop) (w : wS) : Prop := Q (.inl (some (.int 0))) w
theorem zt_X13_key_p22 {E : zE} {L : Nat} {Q : kx_Rs → wS → Prop} {w : wS} (hL : 23 ≤ L) (h : zb_X13_key_p22 E L Q  w) : kzE E L kt_M453 22 [(0, .ref (w_adr E.2.1 12 0))] [] w Q := by
  unfold zb_X13_key_p22 at h
  refine kz_ic (M := kt_M453) 0 kX13_key_c1.2.2.1 rfl ?_
  exact kz_iretz (M := kt_M453) kX13_key_c1.2.2.2.1 rfl (by decide) h
def zb_X13_key_p0 (E : zE) (L : Nat) (Q : kx_Rs → wS → Prop) (x1 : Int32) (w : wS) : Prop := (if w_i w 12 0 123 = 0 then zb_X13_key_p22 E L Q (ws_i w 12 0 1 0) else (if ¬ w_i w 12 0 137 = 500 then (kx_inb (w_i w 12 0 137) (w_n w 12 0 138) = true ∧ zL_X13_key_p50 E L Q 0 (ws_i (ws_a (ws_i w 12 0 1 0) 12 0 138 (w_i w 12 0 137).toNatClampNeg (x1 &&& 255)) 12 0 137 ((w_i w 12 0 137) + 1))) else zb_X13_key_p22 E L Q (ws_i w 12 0 1 0)))
theorem zt_X13_key_p0 {E : zE} {L : Nat} {Q : kx_Rs → wS → Prop} {x1 : Int32} {w : wS} (hL : 23 ≤ L) (h : zb_X13_key_p0 E L Q x1 w) : kzE E L kt_M453 0 [(0, .ref (w_adr E.2.1 12 0)), (1, .int x1)] [] w Q := by
  unfold zb_X13_key_p0 at h
  refine kz_aload_n (M := kt_M453) kX13_key_c0.1 rfl ?_
  refine kz_ic (M := kt_M453) 0 kX13_key_c0.2.1 rfl ?_
  refine kz_pfi (M := kt_M453) (c := 12) (o := 0) kX13_key_c0.2.2.1 wq_X13_451 (.inl rfl) ?_
  refine kz_aload_n (M := kt_M453) kX13_key_c0.2.2.2.1 rfl ?_
  refine kz_gfiR (M := kt_M453) (c := 12) (o := 0) (w_i w 12 0 123) kX13_key_c0.2.2.2.2.1 wf_X13_1122 (.inl rfl) (rd_i_i rfl) ?_
  refine kz_if_eq (M := kt_M453) kX13_key_c0.2.2.2.2.2.1 (t := 22) rfl h (fun h => ?_) (fun h => ?_)
  · skip
    exact kz_weak [(0, .ref (w_adr E.2.1 12 0))] ⟨rfl, trivial⟩ rfl (zt_X13_key_p22 hL  h)
  · skip
    refine kz_aload_n (M := kt_M453) kX13_key_c0.2.2.2.2.2.2.1 rfl ?_
    refine kz_gfiR (M := kt_M453) (c := 12) (o := 0) (w_i w 12 0 137) kX13_key_c0.2.2.2.2.2.2.2.1 wf_X13_1448 (.inl rfl) (rd_i_i rfl) ?_
    refine kz_si (M := kt_M453) 500 kX13_key_c1.1 rfl ?_
    refine kz_icmp_ne (M := kt_M453) kX13_key_c1.2.1 (t := 24) rfl h (fun h => ?_) (fun h => ?_)
    · skip
      refine kz_aload_n (M := kt_M453) kX13_key_c1.2.2.2.2.1 rfl ?_
      refine kz_gfc (M := kt_M453) (x := 4210) (c := 12) (o := 0) kX13_key_c1.2.2.2.2.2.1 wf_X13_379 (.inl rfl) ?_
      refine kz_aload_n (M := kt_M453) kX13_key_c1.2.2.2.2.2.2.1 rfl ?_
      refine kz_gfiR (M := kt_M453) (c := 12) (o := 0) (w_i w 12 0 137) kX13_key_c1.2.2.2.2.2.2.2.1 wf_X13_1448 (.inl rfl) (rd_i_i rfl) ?_
      refine kz_iload_n (M := kt_M453) kX13_key_c2.1 rfl ?_
      refine kz_si (M := kt_M453) 255 kX13_key_c2.2.1 rfl ?_
      refine kz_iand (M := kt_M453) kX13_key_c2.2.2.1 ?_
      refine kz_iastR (M := kt_M453) (n := w_n w 12 0 138) (c := 12) (o := 0) (k := 138) (a := (E.2.1 4210)) kX13_key_c2.2.2.2.1 ow_12_0_138 oa_12_0_138 ot_0 rd_n_i h (fun h => ?_)
      refine kz_aload_n (M := kt_M453) kX13_key_c2.2.2.2.2.1 rfl ?_
      refine kz_dup (M := kt_M453) kX13_key_c2.2.2.2.2.2.1 rfl ?_
      refine kz_gfiR (M := kt_M453) (c := 12) (o := 0) (w_i w 12 0 137) kX13_key_c2.2.2.2.2.2.2.1 wf_X13_1448 (.inl rfl) (rd_i_a.trans (rd_i_i rfl)) ?_
      refine kz_ic (M := kt_M453) 1 kX13_key_c2.2.2.2.2.2.2.2.1 rfl ?_
      refine kz_iadd (M := kt_M453) kX13_key_c3.1 ?_
      refine kz_pfi (M := kt_M453) (c := 12) (o := 0) kX13_key_c3.2.1 wq_X13_1448 (.inl rfl) ?_
      refine kz_ic (M := kt_M453) 0 kX13_key_c3.2.2.1 rfl ?_
      refine kz_sti_n (M := kt_M453) [(0, .ref (w_adr E.2.1 12 0))] kX13_key_c3.2.2.2.1 (Nat.le_of_ble_eq_true rfl) ⟨⟨rfl, rfl, .inl rfl⟩, trivial⟩ rfl ?_
      exact kz_weak [(0, .ref (w_adr E.2.1 12 0)), (2, .int 0)] ⟨rfl, ⟨rfl, trivial⟩⟩ rfl h
    · skip
      exact kz_weak [(0, .ref (w_adr E.2.1 12 0))] ⟨rfl, trivial⟩ rfl (zt_X13_key_p22 hL  h)
def zL_X13_count_p202 (E : zE) (L : Nat) (Q : kx_Rs → wS → Prop) (x2 : Int32) (x3 : Int32) (w : wS) : Prop := kzE E L kt_M380 202 [(0, .ref (w_adr E.2.1 12 0)), (2, .int x2), (3, .int x3)] [] w Q
def zb_X13_count_p232 (E : zE) (L : Nat) (Q : kx_Rs → wS → Prop) (x3 : Int32) (y0 : Int32) (y1 : Int32) (w : wS) : Prop := zL_X13_count_p202 E L Q (y1 + y0) (x3 + 1) w
theorem zt_X13_count_p232 {E : zE} {L : Nat} {Q : kx_Rs → wS → Prop} {x3 : Int32} {y0 : Int32} {y1 : Int32} {w : wS} (hL : 20 ≤ L) (h : zb_X13_count_p232 E L Q x3 y0 y1 w) : kzE E L kt_M380 232 [(0, .ref (w_adr E.2.1 12 0)), (3, .int x3)] [.int y0, .int y1] w Q := by
  unfold zb_X13_count_p232 at h
  refine kz_iadd (M := kt_M380) kX13_count_c11.2.2.2.2.2.2.1 ?_
  refine kz_sti_n (M := kt_M380) [(0, .ref (w_adr E.2.1 12 0)), (3, .int x3)] kX13_count_c11.2.2.2.2.2.2.2.1 (Nat.le_of_ble_eq_true rfl) ⟨⟨rfl, rfl, .inl rfl⟩, ⟨⟨rfl, rfl, .inl rfl⟩, trivial⟩⟩ rfl ?_
  refine kz_inc (M := kt_M380) [(0, .ref (w_adr E.2.1 12 0)), (2, .int (y1 + y0))] kX13_count_c12.1 rfl (Nat.le_of_ble_eq_true rfl) ⟨⟨rfl, rfl, .inl rfl⟩, ⟨⟨rfl, rfl, .inr rfl⟩, trivial⟩⟩ rfl ?_
  refine kz_goto (M := kt_M380) kX13_count_c12.2.1 (t := 202) rfl ?_
  exact kz_weak [(0, .ref (w_adr E.2.1 12 0)), (2, .int (y1 + y0)), (3, .int (x3 + 1))] ⟨rfl, ⟨rfl, ⟨rfl, trivial⟩⟩⟩ rfl h
def zb_X13_count_p202 (E : zE) (L : Nat) (Q : kx_Rs → wS → Prop) (x2 : Int32) (x3 : Int32) (w : wS) : Prop := (if w_i w 12 0 143 ≤ x3 then Q (.inl (some (.int x2))) w else (kx_inb x3 (w_n w 12 0 144) = true ∧ (kx_inb (w_a w 12 0 144 (x3).toNatClampNeg) (w_n w 12 0 147) = true ∧ (if ¬ w_a w 12 0 147 (w_a w 12 0 144 (x3).toNatClampNeg).toNatClampNeg = 7 then zb_X13_count_p232 E L Q x3 0 x2 w else zb_X13_count_p232 E L Q x3 1 x2 w))))
theorem zt_X13_count_p202 {E : zE} {L : Nat} {Q : kx_Rs → wS → Prop} {x2 : Int32} {x3 : Int32} {w : wS} (hL : 20 ≤ L) (h : zb_X13_count_p202 E L Q x2 x3 w) : kzE E L kt_M380 202 [(0, .ref (w_adr E.2.1 12 0)), (2, .int x2), (3, .int x3)] [] w Q := by
  unfold zb_X13_count_p202 at h
  refine kz_iload_n (M := kt_M380) kX13_count_c9.2.2.2.2.2.1 rfl ?_
  refine kz_aload_n (M := kt_M380) kX13_count_c9.2.2.2.2.2.2.1 rfl ?_
  refine kz_gfi (M := kt_M380) (c := 12) (o := 0) kX13_count_c9.2.2.2.2.2.2.2.1 wf_X13_1186 (.inl rfl) ?_
  refine kz_icmp_ge (M := kt_M380) kX13_count_c10.1 (t := 240) rfl h (fun h => ?_) (fun h => ?_)
  · skip
    refine kz_iload_n (M := kt_M380) kX13_count_c12.2.2.1 rfl ?_
    exact kz_iret (M := kt_M380) kX13_count_c12.2.2.2.1 rfl rfl h
  · skip
    refine kz_iload_n (M := kt_M380) kX13_count_c10.2.1 rfl ?_
    refine kz_aload_n (M := kt_M380) kX13_count_c10.2.2.1 rfl ?_
    refine kz_gfc (M := kt_M380) (x := 4219) (c := 12) (o := 0) kX13_count_c10.2.2.2.1 wf_X13_394 (.inl rfl) ?_
    refine kz_aload_n (M := kt_M380) kX13_count_c10.2.2.2.2.1 rfl ?_
    refine kz_gfc (M := kt_M380) (x := 4216) (c := 12) (o := 0) kX13_count_c10.2.2.2.2.2.1 wf_X13_385 (.inl rfl) ?_
    refine kz_iload_n (M := kt_M380) kX13_count_c10.2.2.2.2.2.2.1 rfl ?_
    refine kz_iald (M := kt_M380) (c := 12) (o := 0) (k := 144) (a := (E.2.1 4216)) kX13_count_c10.2.2.2.2.2.2.2.1 ow_12_0_144 oa_12_0_144 ot_0 h (fun h => ?_)
    refine kz_iald (M := kt_M380) (c := 12) (o := 0) (k := 147) (a := (E.2.1 4219)) kX13_count_c11.1 ow_12_0_147 oa_12_0_147 ot_0 h (fun h => ?_)
    refine kz_bi (M := kt_M380) 7 kX13_count_c11.2.1 rfl ?_
    refine kz_icmp_ne (M := kt_M380) kX13_count_c11.2.2.1 (t := 231) rfl h (fun h => ?_) (fun h => ?_)
    · skip
      refine kz_ic (M := kt_M380) 0 kX13_count_c11.2.2.2.2.2.1 rfl ?_
      exact kz_weak [(0, .ref (w_adr E.2.1 12 0)), (3, .int x3)] ⟨rfl, ⟨rfl, trivial⟩⟩ rfl (zt_X13_count_p232 hL  h)
    · skip
      refine kz_ic (M := kt_M380) 1 kX13_count_c11.2.2.2.1 rfl ?_
      refine kz_goto (M := kt_M380) kX13_count_c11.2.2.2.2.1 (t := 232) rfl ?_
      exact kz_weak [(0, .ref (w_adr E.2.1 12 0)), (3, .int x3)] ⟨rfl, ⟨rfl, trivial⟩⟩ rfl (zt_X13_count_p232 hL  h)
def zb_X13_count_p147 (E : zE) (L : Nat) (Q : kx_Rs → wS → Prop) (y0 : Int32) (w : wS) : Prop := Q (.inl (some (.int y0))) w
theorem zt_X13_count_p147 {E : zE} {L : Nat} {Q : kx_Rs → wS → Prop} {y0 : Int32} {w : wS} (hL : 20 ≤ L) (h : zb_X13_count_p147 E L Q y0 w) : kzE E L kt_M380 147 [(0, .ref (w_adr E.2.1 12 0))] [.int y0] w Q := by
  unfold zb_X13_count_p147 at h
  exact kz_iret (M := kt_M380) kX13_count_c5.2.2.1 rfl rfl h
def zb_X13_count_p131 (E : zE) (L : Nat) (Q : kx_Rs → wS → Prop) (y0 : Int32) (w : wS) : Prop := Q (.inl (some (.int y0))) w
theorem zt_X13_count_p131 {E : zE} {L : Nat} {Q : kx_Rs → wS → Prop} {y0 : Int32} {w : wS} (hL : 20 ≤ L) (h : zb_X13_count_p131 E L Q y0 w) : kzE E L kt_M380 131 [(0, .ref (w_adr E.2.1 12 0))] [.int y0] w Q := by
  unfold zb_X13_count_p131 at h
  exact kz_iret (M := kt_M380) kX13_count_c4.2.2.1 rfl rfl h
def zb_X13_count_p115 (E : zE) (L : Nat) (Q : kx_Rs → wS → Prop) (y0 : Int32) (w : wS) : Prop := Q (.inl (some (.int y0))) w
theorem zt_X13_count_p115 {E : zE} {L : Nat} {Q : kx_Rs → wS → Prop} {y0 : Int32} {w : wS} (hL : 20 ≤ L) (h : zb_X13_count_p115 E L Q y0 w) : kzE E L kt_M380 115 [(0, .ref (w_adr E.2.1 12 0))] [.int y0] w Q := by
  unfold zb_X13_count_p115 at h
  exact kz_iret (M := kt_M380) kX13_count_c3.2.2.1 rfl rfl h
def zb_X13_count_p30 (E : zE) (L : Nat) (Q : kx_Rs → wS → Prop) (x1 : Int32) (w : wS) : Prop := (if x1 = 0 then (if w_i w 12 0 110 = 0 then zb_X13_count_p115 E L Q 0 w else zb_X13_count_p115 E L Q (w_i w 12 0 11) w) else (if x1 = 1 then (if w_i w 12 0 110 = 0 then zb_X13_count_p131 E L Q 0 w else zb_X13_count_p131 E L Q (w_i w 12 0 12) w) else (if x1 = 2 then (if w_i w 12 0 110 = 0 then zb_X13_count_p147 E L Q 0 w else zb_X13_count_p147 E L Q (w_i w 12 0 58) w) else (if x1 = 3 then Q (.inl (some (.int (w_i w 12 0 3)))) w else (if x1 = 4 then zw E (L - 20) kt_M543 [.ref (w_adr E.2.1 12 0)] w (wk1 (fun v2 w1 => wle w w1 → Q (.inl (some (.int v2))) w1) (fun e w => Q (.inr e) w)) else (if x1 = 5 then Q (.inl (some (.int (w_i w 12 0 127)))) w else (if x1 = 6 then Q (.inl (some (.int (w_i w 12 0 143)))) w else (if x1 = 7 then Q (.inl (some (.int (w_i w 12 0 129)))) w else (if x1 = 8 then Q (.inl (some (.int (w_i w 12 0 130)))) w else (if x1 = 9 then Q (.inl (some (.int (w_i w 12 0 128)))) w else (if x1 = 10 then Q (.inl (some (.int (w_i w 12 0 135)))) w else (if x1 = 11 then Q (.inl (some (.int (w_i w 12 0 137)))) w else (if x1 = 12 then Q (.inl (some (.int (w_i w 12 0 131)))) w else (if x1 = 13 then zL_X13_count_p202 E L Q 0 0 w else Q (.inl (some (.int (-1)))) w))))))))))))))
theorem zt_X13_count_p30 {E : zE} {L : Nat} {Q : kx_Rs → wS → Prop} {x1 : Int32} {w : wS} (hL : 20 ≤ L) (h : zb_X13_count_p30 E L Q x1 w) : kzE E L kt_M380 30 [(0, .ref (w_adr E.2.1 12 0)), (1, .int x1)] [] w Q := by
  unfold zb_X13_count_p30 at h
  refine kz_iload_n (M := kt_M380) kX13_count_c2.2.1 rfl ?_
  refine kz_tsw (M := kt_M380) [(0, 100), (1, 116), (2, 132), (3, 148), (4, 153), (5, 158), (6, 163), (7, 168), (8, 173), (9, 178), (10, 183), (11, 188), (12, 193), (13, 198)] [_, _, _, _, _, _, _, _, _, _, _, _, _, _] 242 dX13_count_p31 (by decide +kernel) h ⟨fun h => ?_, fun h => ?_, fun h => ?_, fun h => ?_, fun h => ?_, fun h => ?_, fun h => ?_, fun h => ?_, fun h => ?_, fun h => ?_, fun h => ?_, fun h => ?_, fun h => ?_, fun h => ?_, trivial⟩ (fun h => ?_)
  · skip
    refine kz_aload_n (M := kt_M380) kX13_count_c2.2.2.2.1 rfl ?_
    refine kz_gfi (M := kt_M380) (c := 12) (o := 0) kX13_count_c2.2.2.2.2.1 wf_X13_1119 (.inl rfl) ?_
    refine kz_if_eq (M := kt_M380) kX13_count_c2.2.2.2.2.2.1 (t := 114) rfl h (fun h => ?_) (fun h => ?_)
    · skip
      refine kz_ic (M := kt_M380) 0 kX13_count_c3.2.1 rfl ?_
      exact kz_weak [(0, .ref (w_adr E.2.1 12 0))] ⟨rfl, trivial⟩ rfl (zt_X13_count_p115 hL  h)
    · skip
      refine kz_aload_n (M := kt_M380) kX13_count_c2.2.2.2.2.2.2.1 rfl ?_
      refine kz_gfi (M := kt_M380) (c := 12) (o := 0) kX13_count_c2.2.2.2.2.2.2.2.1 wf_X13_531 (.inl rfl) ?_
      refine kz_goto (M := kt_M380) kX13_count_c3.1 (t := 115) rfl ?_
      exact kz_weak [(0, .ref (w_adr E.2.1 12 0))] ⟨rfl, trivial⟩ rfl (zt_X13_count_p115 hL  h)
  · skip
    refine kz_aload_n (M := kt_M380) kX13_count_c3.2.2.2.1 rfl ?_
    refine kz_gfi (M := kt_M380) (c := 12) (o := 0) kX13_count_c3.2.2.2.2.1 wf_X13_1119 (.inl rfl) ?_
    refine kz_if_eq (M := kt_M380) kX13_count_c3.2.2.2.2.2.1 (t := 130) rfl h (fun h => ?_) (fun h => ?_)
    · skip
      refine kz_ic (M := kt_M380) 0 kX13_count_c4.2.1 rfl ?_
      exact kz_weak [(0, .ref (w_adr E.2.1 12 0))] ⟨rfl, trivial⟩ rfl (zt_X13_count_p131 hL  h)
    · skip
      refine kz_aload_n (M := kt_M380) kX13_count_c3.2.2.2.2.2.2.1 rfl ?_
      refine kz_gfi (M := kt_M380) (c := 12) (o := 0) kX13_count_c3.2.2.2.2.2.2.2.1 wf_X13_534 (.inl rfl) ?_
      refine kz_goto (M := kt_M380) kX13_count_c4.1 (t := 131) rfl ?_
      exact kz_weak [(0, .ref (w_adr E.2.1 12 0))] ⟨rfl, trivial⟩ rfl (zt_X13_count_p131 hL  h)
  · skip
    refine kz_aload_n (M := kt_M380) kX13_count_c4.2.2.2.1 rfl ?_
    refine kz_gfi (M := kt_M380) (c := 12) (o := 0) kX13_count_c4.2.2.2.2.1 wf_X13_1119 (.inl rfl) ?_
    refine kz_if_eq (M := kt_M380) kX13_count_c4.2.2.2.2.2.1 (t := 146) rfl h (fun h => ?_) (fun h => ?_)
    · skip
      refine kz_ic (M := kt_M380) 0 kX13_count_c5.2.1 rfl ?_
      exact kz_weak [(0, .ref (w_adr E.2.1 12 0))] ⟨rfl, trivial⟩ rfl (zt_X13_count_p147 hL  h)
    · skip
      refine kz_aload_n (M := kt_M380) kX13_count_c4.2.2.2.2.2.2.1 rfl ?_
      refine kz_gfi (M := kt_M380) (c := 12) (o := 0) kX13_count_c4.2.2.2.2.2.2.2.1 wf_X13_793 (.inl rfl) ?_
      refine kz_goto (M := kt_M380) kX13_count_c5.1 (t := 147) rfl ?_
      exact kz_weak [(0, .ref (w_adr E.2.1 12 0))] ⟨rfl, trivial⟩ rfl (zt_X13_count_p147 hL  h)
  · skip
    refine kz_aload_n (M := kt_M380) kX13_count_c5.2.2.2.1 rfl ?_
    refine kz_gfi (M := kt_M380) (c := 12) (o := 0) kX13_count_c5.2.2.2.2.1 wf_X13_455 (.inl rfl) ?_
    exact kz_iret (M := kt_M380) kX13_count_c5.2.2.2.2.2.1 rfl rfl h
  · skip
    refine kz_aload_n (M := kt_M380) kX13_count_c5.2.2.2.2.2.2.1 rfl ?_
    refine kz_cv1 (M := kt_M380) (c := 12) (o := 0) (As := []) (rest := []) kX13_count_c5.2.2.2.2.2.2.2.1 wl_X13_1501 wMv_543 rfl (.inl rfl) rfl (Nat.le_trans (Nat.le_of_ble_eq_true rfl) hL) (Nat.le_of_ble_eq_true rfl) (Nat.le_of_ble_eq_true rfl) h (fun v2 w1 hle h => ?_) (fun _ _ _ h => kzx_no rfl h)
    have h := h hle
    exact kz_iret (M := kt_M380) kX13_count_c6.1 rfl rfl h
  · skip
    refine kz_aload_n (M := kt_M380) kX13_count_c6.2.1 rfl ?_
    refine kz_gfi (M := kt_M380) (c := 12) (o := 0) kX13_count_c6.2.2.1 wf_X13_1431 (.inl rfl) ?_
    exact kz_iret (M := kt_M380) kX13_count_c6.2.2.2.1 rfl rfl h
  · skip
    refine kz_aload_n (M := kt_M380) kX13_count_c6.2.2.2.2.1 rfl ?_
    refine kz_gfi (M := kt_M380) (c := 12) (o := 0) kX13_count_c6.2.2.2.2.2.1 wf_X13_1186 (.inl rfl) ?_
    exact kz_iret (M := kt_M380) kX13_count_c6.2.2.2.2.2.2.1 rfl rfl h
  · skip
    refine kz_aload_n (M := kt_M380) kX13_count_c6.2.2.2.2.2.2.2.1 rfl ?_
    refine kz_gfi (M := kt_M380) (c := 12) (o := 0) kX13_count_c7.1 wf_X13_1337 (.inl rfl) ?_
    exact kz_iret (M := kt_M380) kX13_count_c7.2.1 rfl rfl h
  · skip
    refine kz_aload_n (M := kt_M380) kX13_count_c7.2.2.1 rfl ?_
    refine kz_gfi (M := kt_M380) (c := 12) (o := 0) kX13_count_c7.2.2.2.1 wf_X13_1428 (.inl rfl) ?_
    exact kz_iret (M := kt_M380) kX13_count_c7.2.2.2.2.1 rfl rfl h
  · skip
    refine kz_aload_n (M := kt_M380) kX13_count_c7.2.2.2.2.2.1 rfl ?_
    refine kz_gfi (M := kt_M380) (c := 12) (o := 0) kX13_count_c7.2.2.2.2.2.2.1 wf_X13_1388 (.inl rfl) ?_
    exact kz_iret (M := kt_M380) kX13_count_c7.2.2.2.2.2.2.2.1 rfl rfl h
  · skip
    refine kz_aload_n (M := kt_M380) kX13_count_c8.1 rfl ?_
    refine kz_gfi (M := kt_M380) (c := 12) (o := 0) kX13_count_c8.2.1 wf_X13_1404 (.inl rfl) ?_
    exact kz_iret (M := kt_M380) kX13_count_c8.2.2.1 rfl rfl h
  · skip
    refine kz_aload_n (M := kt_M380) kX13_count_c8.2.2.2.1 rfl ?_
    refine kz_gfi (M := kt_M380) (c := 12) (o := 0) kX13_count_c8.2.2.2.2.1 wf_X13_1448 (.inl rfl) ?_
    exact kz_iret (M := kt_M380) kX13_count_c8.2.2.2.2.2.1 rfl rfl h
  · skip
    refine kz_aload_n (M := kt_M380) kX13_count_c8.2.2.2.2.2.2.1 rfl ?_
    refine kz_gfi (M := kt_M380) (c := 12) (o := 0) kX13_count_c8.2.2.2.2.2.2.2.1 wf_X13_1243 (.inl rfl) ?_
    exact kz_iret (M := kt_M380) kX13_count_c9.1 rfl rfl h
  · skip
    refine kz_ic (M := kt_M380) 0 kX13_count_c9.2.1 rfl ?_
    refine kz_sti_n (M := kt_M380) [(0, .ref (w_adr E.2.1 12 0))] kX13_count_c9.2.2.1 (Nat.le_of_ble_eq_true rfl) ⟨⟨rfl, rfl, .inl rfl⟩, trivial⟩ rfl ?_
    refine kz_ic (M := kt_M380) 0 kX13_count_c9.2.2.2.1 rfl ?_
    refine kz_sti_n (M := kt_M380) [(0, .ref (w_adr E.2.1 12 0)), (2, .int 0)] kX13_count_c9.2.2.2.2.1 (Nat.le_of_ble_eq_true rfl) ⟨⟨rfl, rfl, .inl rfl⟩, ⟨⟨rfl, rfl, .inr rfl⟩, trivial⟩⟩ rfl ?_
    exact kz_weak [(0, .ref (w_adr E.2.1 12 0)), (2, .int 0), (3, .int 0)] ⟨rfl, ⟨rfl, ⟨rfl, trivial⟩⟩⟩ rfl h
  · skip
    refine kz_ic (M := kt_M380) (-1) kX13_count_c12.2.2.2.2.1 rfl ?_
    exact kz_iret (M := kt_M380) kX13_count_c12.2.2.2.2.2.1 rfl rfl h
def zb_X13_count_p0 (E : zE) (L : Nat) (Q : kx_Rs → wS → Prop) (x1 : Int32) (w : wS) : Prop := (if x1 < 5 then zb_X13_count_p30 E L Q x1 (ws_i w 12 0 1 0) else (if 13 < x1 then zb_X13_count_p30 E L Q x1 (ws_i w 12 0 1 0) else (if x1 = 4 then zb_X13_count_p30 E L Q x1 (ws_i w 12 0 1 0) else (if ¬ w_i w 12 0 123 = 0 then zb_X13_count_p30 E L Q x1 (ws_i w 12 0 1 0) else Q (.inl (some (.int 0))) (ws_i w 12 0 1 0)))))
theorem zt_X13_count_p0 {E : zE} {L : Nat} {Q : kx_Rs → wS → Prop} {x1 : Int32} {w : wS} (hL : 20 ≤ L) (h : zb_X13_count_p0 E L Q x1 w) : kzE E L kt_M380 0 [(0, .ref (w_adr E.2.1 12 0)), (1, .int x1)] [] w Q := by
  unfold zb_X13_count_p0 at h
  refine kz_aload_n (M := kt_M380) kX13_count_c0.1 rfl ?_
  refine kz_ic (M := kt_M380) 0 kX13_count_c0.2.1 rfl ?_
  refine kz_pfi (M := kt_M380) (c := 12) (o := 0) kX13_count_c0.2.2.1 wq_X13_451 (.inl rfl) ?_
  refine kz_iload_n (M := kt_M380) kX13_count_c0.2.2.2.1 rfl ?_
  refine kz_ic (M := kt_M380) 5 kX13_count_c0.2.2.2.2.1 rfl ?_
  refine kz_icmp_lt (M := kt_M380) kX13_count_c0.2.2.2.2.2.1 (t := 30) rfl h (fun h => ?_) (fun h => ?_)
  · skip
    exact kz_weak [(0, .ref (w_adr E.2.1 12 0)), (1, .int x1)] ⟨rfl, ⟨rfl, trivial⟩⟩ rfl (zt_X13_count_p30 hL  h)
  · skip
    refine kz_iload_n (M := kt_M380) kX13_count_c0.2.2.2.2.2.2.1 rfl ?_
    refine kz_bi (M := kt_M380) 13 kX13_count_c0.2.2.2.2.2.2.2.1 rfl ?_
    refine kz_icmp_gt (M := kt_M380) kX13_count_c1.1 (t := 30) rfl h (fun h => ?_) (fun h => ?_)
    · skip
      exact kz_weak [(0, .ref (w_adr E.2.1 12 0)), (1, .int x1)] ⟨rfl, ⟨rfl, trivial⟩⟩ rfl (zt_X13_count_p30 hL  h)
    · skip
      refine kz_iload_n (M := kt_M380) kX13_count_c1.2.1 rfl ?_
      refine kz_ic (M := kt_M380) 4 kX13_count_c1.2.2.1 rfl ?_
      refine kz_icmp_eq (M := kt_M380) kX13_count_c1.2.2.2.1 (t := 30) rfl h (fun h => ?_) (fun h => ?_)
      · skip
        exact kz_weak [(0, .ref (w_adr E.2.1 12 0)), (1, .int x1)] ⟨rfl, ⟨rfl, trivial⟩⟩ rfl (zt_X13_count_p30 hL  h)
      · skip
        refine kz_aload_n (M := kt_M380) kX13_count_c1.2.2.2.2.1 rfl ?_
        refine kz_gfiR (M := kt_M380) (c := 12) (o := 0) (w_i w 12 0 123) kX13_count_c1.2.2.2.2.2.1 wf_X13_1122 (.inl rfl) (rd_i_i rfl) ?_
        refine kz_if_ne (M := kt_M380) kX13_count_c1.2.2.2.2.2.2.1 (t := 30) rfl h (fun h => ?_) (fun h => ?_)
        · skip
          exact kz_weak [(0, .ref (w_adr E.2.1 12 0)), (1, .int x1)] ⟨rfl, ⟨rfl, trivial⟩⟩ rfl (zt_X13_count_p30 hL  h)
        · skip
          refine kz_ic (M := kt_M380) 0 kX13_count_c1.2.2.2.2.2.2.2.1 rfl ?_
          exact kz_iret (M := kt_M380) kX13_count_c2.1 rfl rfl h
def zb_X13_state_p48 (E : zE) (L : Nat) (Q : kx_Rs → wS → Prop) (y0 : Int32) (w : wS) : Prop := Q (.inl (some (.int y0))) w
theorem zt_X13_state_p48 {E : zE} {L : Nat} {Q : kx_Rs → wS → Prop} {y0 : Int32} {w : wS} (hL : 25 ≤ L) (h : zb_X13_state_p48 E L Q y0 w) : kzE E L kt_M543 48 [(0, .ref (w_adr E.2.1 12 0))] [.int y0] w Q := by
  unfold zb_X13_state_p48 at h
  exact kz_iret (M := kt_M543) kX13_state_c3.2.2.1 rfl rfl h
def zb_X13_state_p34 (E : zE) (L : Nat) (Q : kx_Rs → wS → Prop) (w : wS) : Prop := Q (.inl (some (.int 1))) w
theorem zt_X13_state_p34 {E : zE} {L : Nat} {Q : kx_Rs → wS → Prop} {w : wS} (hL : 25 ≤ L) (h : zb_X13_state_p34 E L Q  w) : kzE E L kt_M543 34 [(0, .ref (w_adr E.2.1 12 0))] [] w Q := by
  unfold zb_X13_state_p34 at h
  refine kz_ic (M := kt_M543) 1 kX13_state_c2.2.2.1 rfl ?_
  exact kz_iret (M := kt_M543) kX13_state_c2.2.2.2.1 rfl rfl h
def zb_X13_state_p0 (E : zE) (L : Nat) (Q : kx_Rs → wS → Prop) (w : wS) : Prop := (if ¬ w_i w 12 0 123 = 0 then (if w_i w 12 0 124 = 0 then zw E (L - 21) kt_M436 [.ref (w_adr E.2.1 12 0)] w (wk1 (fun v2 w1 => wle w w1 → (if ¬ v2 = 0 then zb_X13_state_p34 E L Q w1 else zw E (L - 25) kt_M489 [.ref (w_adr E.2.1 12 0)] w1 (wkl (fun v4 w3 => wle w1 w3 → (if (lg_cmp v4 0) ≤ 0 then zw E (L - 22) kt_M598 [.ref (w_adr E.2.1 12 0)] w3 (wk1 (fun v6 w5 => wle w3 w5 → (if v6 = 0 then zb_X13_state_p48 E L Q 3 w5 else zb_X13_state_p48 E L Q 4 w5)) (fun e w => Q (.inr e) w)) else zb_X13_state_p34 E L Q w3)) (fun e w => Q (.inr e) w)))) (fun e w => Q (.inr e) w)) else Q (.inl (some (.int 2))) w) else Q (.inl (some (.int 0))) w)
theorem zt_X13_state_p0 {E : zE} {L : Nat} {Q : kx_Rs → wS → Prop} {w : wS} (hL : 25 ≤ L) (h : zb_X13_state_p0 E L Q  w) : kzE E L kt_M543 0 [(0, .ref (w_adr E.2.1 12 0))] [] w Q := by
  unfold zb_X13_state_p0 at h
  refine kz_aload_n (M := kt_M543) kX13_state_c0.1 rfl ?_
  refine kz_gfi (M := kt_M543) (c := 12) (o := 0) kX13_state_c0.2.1 wf_X13_1122 (.inl rfl) ?_
  refine kz_if_ne (M := kt_M543) kX13_state_c0.2.2.1 (t := 9) rfl h (fun h => ?_) (fun h => ?_)
  · skip
    refine kz_aload_n (M := kt_M543) kX13_state_c0.2.2.2.2.2.1 rfl ?_
    refine kz_gfi (M := kt_M543) (c := 12) (o := 0) kX13_state_c0.2.2.2.2.2.2.1 wf_X13_1328 (.inl rfl) ?_
    refine kz_if_eq (M := kt_M543) kX13_state_c0.2.2.2.2.2.2.2.1 (t := 18) rfl h (fun h => ?_) (fun h => ?_)
    · skip
      refine kz_aload_n (M := kt_M543) kX13_state_c1.2.2.1 rfl ?_
      refine kz_cv1 (M := kt_M543) (c := 12) (o := 0) (As := []) (rest := []) kX13_state_c1.2.2.2.1 wl_X13_1485 wMv_436 rfl (.inl rfl) rfl (Nat.le_trans (Nat.le_of_ble_eq_true rfl) hL) (Nat.le_of_ble_eq_true rfl) (Nat.le_of_ble_eq_true rfl) h (fun v2 w1 hle h => ?_) (fun _ _ _ h => kzx_no rfl h)
      have h := h hle
      refine kz_if_ne (M := kt_M543) kX13_state_c1.2.2.2.2.1 (t := 34) rfl h (fun h => ?_) (fun h => ?_)
      · skip
        exact kz_weak [(0, .ref (w_adr E.2.1 12 0))] ⟨rfl, trivial⟩ rfl (zt_X13_state_p34 hL  h)
      · skip
        refine kz_aload_n (M := kt_M543) kX13_state_c1.2.2.2.2.2.1 rfl ?_
        refine kz_cvl (M := kt_M543) (c := 12) (o := 0) (As := []) (rest := []) kX13_state_c1.2.2.2.2.2.2.1 wl_X13_1488 wMv_489 rfl (.inl rfl) rfl (Nat.le_trans (Nat.le_of_ble_eq_true rfl) hL) (Nat.le_of_ble_eq_true rfl) (Nat.le_of_ble_eq_true rfl) h (fun v4 w3 hle h => ?_) (fun _ _ _ h => kzx_no rfl h)
        have h := h hle
        refine kz_lconst (M := kt_M543) kX13_state_c1.2.2.2.2.2.2.2.1 ?_
        refine kz_lcmp (M := kt_M543) kX13_state_c2.1 ?_
        refine kz_if_le (M := kt_M543) kX13_state_c2.2.1 (t := 36) rfl h (fun h => ?_) (fun h => ?_)
        · skip
          refine kz_aload_n (M := kt_M543) kX13_state_c2.2.2.2.2.1 rfl ?_
          refine kz_cv1 (M := kt_M543) (c := 12) (o := 0) (As := []) (rest := []) kX13_state_c2.2.2.2.2.2.1 wl_X13_1492 wMv_598 rfl (.inl rfl) rfl (Nat.le_trans (Nat.le_of_ble_eq_true rfl) hL) (Nat.le_of_ble_eq_true rfl) (Nat.le_of_ble_eq_true rfl) h (fun v6 w5 hle h => ?_) (fun _ _ _ h => kzx_no rfl h)
          have h := h hle
          refine kz_if_eq (M := kt_M543) kX13_state_c2.2.2.2.2.2.2.1 (t := 47) rfl h (fun h => ?_) (fun h => ?_)
          · skip
            refine kz_ic (M := kt_M543) 3 kX13_state_c3.2.1 rfl ?_
            exact kz_weak [(0, .ref (w_adr E.2.1 12 0))] ⟨rfl, trivial⟩ rfl (zt_X13_state_p48 hL  h)
          · skip
            refine kz_ic (M := kt_M543) 4 kX13_state_c2.2.2.2.2.2.2.2.1 rfl ?_
            refine kz_goto (M := kt_M543) kX13_state_c3.1 (t := 48) rfl ?_
            exact kz_weak [(0, .ref (w_adr E.2.1 12 0))] ⟨rfl, trivial⟩ rfl (zt_X13_state_p48 hL  h)
        · skip
          exact kz_weak [(0, .ref (w_adr E.2.1 12 0))] ⟨rfl, trivial⟩ rfl (zt_X13_state_p34 hL  h)
    · skip
      refine kz_ic (M := kt_M543) 2 kX13_state_c1.1 rfl ?_
      exact kz_iret (M := kt_M543) kX13_state_c1.2.1 rfl rfl h
  · skip
    refine kz_ic (M := kt_M543) 0 kX13_state_c0.2.2.2.1 rfl ?_
    exact kz_iret (M := kt_M543) kX13_state_c0.2.2.2.2.1 rfl rfl h
def zL_X13_waitsForKey_p2 (E : zE) (L : Nat) (Q : kx_Rs → wS → Prop) (x1 : Int32) (w : wS) : Prop := kzE E L kt_M598 2 [(0, .ref (w_adr E.2.1 12 0)), (1, .int x1)] [] w Q
def zb_X13_waitsForKey_p52 (E : zE) (L : Nat) (Q : kx_Rs → wS → Prop) (x1 : Int32) (w : wS) : Prop := zL_X13_waitsForKey_p2 E L Q (x1 + 1) w
theorem zt_X13_waitsForKey_p52 {E : zE} {L : Nat} {Q : kx_Rs → wS → Prop} {x1 : Int32} {w : wS} (hL : 23 ≤ L) (h : zb_X13_waitsForKey_p52 E L Q x1 w) : kzE E L kt_M598 52 [(0, .ref (w_adr E.2.1 12 0)), (1, .int x1)] [] w Q := by
  unfold zb_X13_waitsForKey_p52 at h
  refine kz_inc (M := kt_M598) [(0, .ref (w_adr E.2.1 12 0))] kX13_waitsForKey_c3.2.2.2.2.2.2.2.1 rfl (Nat.le_of_ble_eq_true rfl) ⟨⟨rfl, rfl, .inr rfl⟩, trivial⟩ rfl ?_
  refine kz_goto (M := kt_M598) kX13_waitsForKey_c4.1 (t := 2) rfl ?_
  exact kz_weak [(0, .ref (w_adr E.2.1 12 0)), (1, .int (x1 + 1))] ⟨rfl, ⟨rfl, trivial⟩⟩ rfl h
def zb_X13_waitsForKey_p50 (E : zE) (L : Nat) (Q : kx_Rs → wS → Prop) (w : wS) : Prop := Q (.inl (some (.int 1))) w
theorem zt_X13_waitsForKey_p50 {E : zE} {L : Nat} {Q : kx_Rs → wS → Prop} {w : wS} (hL : 23 ≤ L) (h : zb_X13_waitsForKey_p50 E L Q  w) : kzE E L kt_M598 50 [(0, .ref (w_adr E.2.1 12 0))] [] w Q := by
  unfold zb_X13_waitsForKey_p50 at h
  refine kz_ic (M := kt_M598) 1 kX13_waitsForKey_c3.2.2.2.2.2.1 rfl ?_
  exact kz_iretz (M := kt_M598) kX13_waitsForKey_c3.2.2.2.2.2.2.1 rfl (by decide) h
def zb_X13_waitsForKey_p2 (E : zE) (L : Nat) (Q : kx_Rs → wS → Prop) (x1 : Int32) (w : wS) : Prop := (if w_i w 12 0 143 ≤ x1 then Q (.inl (some (.int 0))) w else (kx_inb x1 (w_n w 12 0 144) = true ∧ (kx_inb (w_a w 12 0 144 (x1).toNatClampNeg) (w_n w 12 0 147) = true ∧ (if w_a w 12 0 147 (w_a w 12 0 144 (x1).toNatClampNeg).toNatClampNeg = 6 then zb_X13_waitsForKey_p50 E L Q w else (kx_inb (w_a w 12 0 144 (x1).toNatClampNeg) (w_n w 12 0 147) = true ∧ (if ¬ w_a w 12 0 147 (w_a w 12 0 144 (x1).toNatClampNeg).toNatClampNeg = 3 then zb_X13_waitsForKey_p52 E L Q x1 w else zw E (L - 23) kt_M425 [.ref (w_adr E.2.1 12 0), .int (w_a w 12 0 144 (x1).toNatClampNeg), .int (w_i w 12 0 140)] w (wk1 (fun v2 w1 => wle w w1 → (if v2 = 0 then zb_X13_waitsForKey_p52 E L Q x1 w1 else zb_X13_waitsForKey_p50 E L Q w1)) (fun e w => Q (.inr e) w))))))))
theorem zt_X13_waitsForKey_p2 {E : zE} {L : Nat} {Q : kx_Rs → wS → Prop} {x1 : Int32} {w : wS} (hL : 23 ≤ L) (h : zb_X13_waitsForKey_p2 E L Q x1 w) : kzE E L kt_M598 2 [(0, .ref (w_adr E.2.1 12 0)), (1, .int x1)] [] w Q := by
  unfold zb_X13_waitsForKey_p2 at h
  refine kz_iload_n (M := kt_M598) kX13_waitsForKey_c0.2.2.1 rfl ?_
  refine kz_aload_n (M := kt_M598) kX13_waitsForKey_c0.2.2.2.1 rfl ?_
  refine kz_gfi (M := kt_M598) (c := 12) (o := 0) kX13_waitsForKey_c0.2.2.2.2.1 wf_X13_1186 (.inl rfl) ?_
  refine kz_icmp_ge (M := kt_M598) kX13_waitsForKey_c0.2.2.2.2.2.1 (t := 58) rfl h (fun h => ?_) (fun h => ?_)
  · skip
    refine kz_ic (M := kt_M598) 0 kX13_waitsForKey_c4.2.1 rfl ?_
    exact kz_iretz (M := kt_M598) kX13_waitsForKey_c4.2.2.1 rfl (by decide) h
  · skip
    refine kz_aload_n (M := kt_M598) kX13_waitsForKey_c0.2.2.2.2.2.2.1 rfl ?_
    refine kz_gfc (M := kt_M598) (x := 4216) (c := 12) (o := 0) kX13_waitsForKey_c0.2.2.2.2.2.2.2.1 wf_X13_385 (.inl rfl) ?_
    refine kz_iload_n (M := kt_M598) kX13_waitsForKey_c1.1 rfl ?_
    refine kz_iald (M := kt_M598) (c := 12) (o := 0) (k := 144) (a := (E.2.1 4216)) kX13_waitsForKey_c1.2.1 ow_12_0_144 oa_12_0_144 ot_0 h (fun h => ?_)
    refine kz_sti_n (M := kt_M598) [(0, .ref (w_adr E.2.1 12 0)), (1, .int x1)] kX13_waitsForKey_c1.2.2.1 (Nat.le_of_ble_eq_true rfl) ⟨⟨rfl, rfl, .inl rfl⟩, ⟨⟨rfl, rfl, .inr rfl⟩, trivial⟩⟩ rfl ?_
    refine kz_aload_n (M := kt_M598) kX13_waitsForKey_c1.2.2.2.1 rfl ?_
    refine kz_gfc (M := kt_M598) (x := 4219) (c := 12) (o := 0) kX13_waitsForKey_c1.2.2.2.2.1 wf_X13_394 (.inl rfl) ?_
    refine kz_iload_n (M := kt_M598) kX13_waitsForKey_c1.2.2.2.2.2.1 rfl ?_
    refine kz_iald (M := kt_M598) (c := 12) (o := 0) (k := 147) (a := (E.2.1 4219)) kX13_waitsForKey_c1.2.2.2.2.2.2.1 ow_12_0_147 oa_12_0_147 ot_0 h (fun h => ?_)
    refine kz_bi (M := kt_M598) 6 kX13_waitsForKey_c1.2.2.2.2.2.2.2.1 rfl ?_
    refine kz_icmp_eq (M := kt_M598) kX13_waitsForKey_c2.1 (t := 50) rfl h (fun h => ?_) (fun h => ?_)
    · skip
      exact kz_weak [(0, .ref (w_adr E.2.1 12 0))] ⟨rfl, trivial⟩ rfl (zt_X13_waitsForKey_p50 hL  h)
    · skip
      refine kz_aload_n (M := kt_M598) kX13_waitsForKey_c2.2.1 rfl ?_
      refine kz_gfc (M := kt_M598) (x := 4219) (c := 12) (o := 0) kX13_waitsForKey_c2.2.2.1 wf_X13_394 (.inl rfl) ?_
      refine kz_iload_n (M := kt_M598) kX13_waitsForKey_c2.2.2.2.1 rfl ?_
      refine kz_iald (M := kt_M598) (c := 12) (o := 0) (k := 147) (a := (E.2.1 4219)) kX13_waitsForKey_c2.2.2.2.2.1 ow_12_0_147 oa_12_0_147 ot_0 h (fun h => ?_)
      refine kz_ic (M := kt_M598) 3 kX13_waitsForKey_c2.2.2.2.2.2.1 rfl ?_
      refine kz_icmp_ne (M := kt_M598) kX13_waitsForKey_c2.2.2.2.2.2.2.1 (t := 52) rfl h (fun h => ?_) (fun h => ?_)
      · skip
        exact kz_weak [(0, .ref (w_adr E.2.1 12 0)), (1, .int x1)] ⟨rfl, ⟨rfl, trivial⟩⟩ rfl (zt_X13_waitsForKey_p52 hL  h)
      · skip
        refine kz_aload_n (M := kt_M598) kX13_waitsForKey_c2.2.2.2.2.2.2.2.1 rfl ?_
        refine kz_iload_n (M := kt_M598) kX13_waitsForKey_c3.1 rfl ?_
        refine kz_aload_n (M := kt_M598) kX13_waitsForKey_c3.2.1 rfl ?_
        refine kz_gfi (M := kt_M598) (c := 12) (o := 0) kX13_waitsForKey_c3.2.2.1 wf_X13_1410 (.inl rfl) ?_
        refine kz_cv1 (M := kt_M598) (c := 12) (o := 0) (As := [.int (w_a w 12 0 144 (x1).toNatClampNeg), .int (w_i w 12 0 140)]) (rest := []) kX13_waitsForKey_c3.2.2.2.1 wl_X13_1419 wMv_425 rfl (.inl rfl) rfl (Nat.le_trans (Nat.le_of_ble_eq_true rfl) hL) (Nat.le_of_ble_eq_true rfl) (Nat.le_of_ble_eq_true rfl) h (fun v2 w1 hle h => ?_) (fun _ _ _ h => kzx_no rfl h)
        have h := h hle
        refine kz_if_eq (M := kt_M598) kX13_waitsForKey_c3.2.2.2.2.1 (t := 52) rfl h (fun h => ?_) (fun h => ?_)
        · skip
          exact kz_weak [(0, .ref (w_adr E.2.1 12 0)), (1, .int x1)] ⟨rfl, ⟨rfl, trivial⟩⟩ rfl (zt_X13_waitsForKey_p52 hL  h)
        · skip
          exact kz_weak [(0, .ref (w_adr E.2.1 12 0))] ⟨rfl, trivial⟩ rfl (zt_X13_waitsForKey_p50 hL  h)
def zb_X13_waitsForKey_p0 (E : zE) (L : Nat) (Q : kx_Rs → wS → Prop) (w : wS) : Prop := zL_X13_waitsForKey_p2 E L Q 0 w
theorem zt_X13_waitsForKey_p0 {E : zE} {L : Nat} {Q : kx_Rs → wS → Prop} {w : wS} (hL : 23 ≤ L) (h : zb_X13_waitsForKey_p0 E L Q  w) : kzE E L kt_M598 0 [(0, .ref (w_adr E.2.1 12 0))] [] w Q := by
  unfold zb_X13_waitsForKey_p0 at h
  refine kz_ic (M := kt_M598) 0 kX13_waitsForKey_c0.1 rfl ?_
  refine kz_sti_n (M := kt_M598) [(0, .ref (w_adr E.2.1 12 0))] kX13_waitsForKey_c0.2.1 (Nat.le_of_ble_eq_true rfl) ⟨⟨rfl, rfl, .inr rfl⟩, trivial⟩ rfl ?_
  exact kz_weak [(0, .ref (w_adr E.2.1 12 0)), (1, .int 0)] ⟨rfl, ⟨rfl, trivial⟩⟩ rfl h
def zb_X13_output_p34 (E : zE) (L : Nat) (Q : kx_Rs → wS → Prop) (y0 : Int32) (w : wS) : Prop := Q (.inl (some (.int y0))) w
theorem zt_X13_output_p34 {E : zE} {L : Nat} {Q : kx_Rs → wS → Prop} {y0 : Int32} {w : wS} (hL : 19 ≤ L) (h : zb_X13_output_p34 E L Q y0 w) : kzE E L kt_M500 34 [(0, .ref (w_adr E.2.1 12 0))] [.int y0] w Q := by
  unfold zb_X13_output_p34 at h
  exact kz_iret (M := kt_M500) kX13_output_c2.2.2.1 rfl rfl h
def zb_X13_output_p24 (E : zE) (L : Nat) (Q : kx_Rs → wS → Prop) (w : wS) : Prop := zb_X13_output_p34 E L Q (-1) w
theorem zt_X13_output_p24 {E : zE} {L : Nat} {Q : kx_Rs → wS → Prop} {w : wS} (hL : 19 ≤ L) (h : zb_X13_output_p24 E L Q  w) : kzE E L kt_M500 24 [(0, .ref (w_adr E.2.1 12 0))] [] w Q := by
  unfold zb_X13_output_p24 at h
  refine kz_ic (M := kt_M500) (-1) kX13_output_c1.2.2.2.2.1 rfl ?_
  refine kz_goto (M := kt_M500) kX13_output_c1.2.2.2.2.2.1 (t := 34) rfl ?_
  exact kz_weak [(0, .ref (w_adr E.2.1 12 0))] ⟨rfl, trivial⟩ rfl (zt_X13_output_p34 hL  h)
def zb_X13_output_p0 (E : zE) (L : Nat) (Q : kx_Rs → wS → Prop) (x1 : Int32) (w : wS) : Prop := (if w_i w 12 0 123 = 0 then zb_X13_output_p24 E L Q (ws_i w 12 0 1 0) else (if x1 < 0 then zb_X13_output_p24 E L Q (ws_i w 12 0 1 0) else (if x1 < w_i w 12 0 135 then (kx_inb x1 (w_n w 12 0 136) = true ∧ zb_X13_output_p34 E L Q (w_a w 12 0 136 (x1).toNatClampNeg) (ws_i w 12 0 1 0)) else zb_X13_output_p24 E L Q (ws_i w 12 0 1 0))))
theorem zt_X13_output_p0 {E : zE} {L : Nat} {Q : kx_Rs → wS → Prop} {x1 : Int32} {w : wS} (hL : 19 ≤ L) (h : zb_X13_output_p0 E L Q x1 w) : kzE E L kt_M500 0 [(0, .ref (w_adr E.2.1 12 0)), (1, .int x1)] [] w Q := by
  unfold zb_X13_output_p0 at h
  refine kz_aload_n (M := kt_M500) kX13_output_c0.1 rfl ?_
  refine kz_ic (M := kt_M500) 0 kX13_output_c0.2.1 rfl ?_
  refine kz_pfi (M := kt_M500) (c := 12) (o := 0) kX13_output_c0.2.2.1 wq_X13_451 (.inl rfl) ?_
  refine kz_aload_n (M := kt_M500) kX13_output_c0.2.2.2.1 rfl ?_
  refine kz_gfiR (M := kt_M500) (c := 12) (o := 0) (w_i w 12 0 123) kX13_output_c0.2.2.2.2.1 wf_X13_1122 (.inl rfl) (rd_i_i rfl) ?_
  refine kz_if_eq (M := kt_M500) kX13_output_c0.2.2.2.2.2.1 (t := 24) rfl h (fun h => ?_) (fun h => ?_)
  · skip
    exact kz_weak [(0, .ref (w_adr E.2.1 12 0))] ⟨rfl, trivial⟩ rfl (zt_X13_output_p24 hL  h)
  · skip
    refine kz_iload_n (M := kt_M500) kX13_output_c0.2.2.2.2.2.2.1 rfl ?_
    refine kz_if_lt (M := kt_M500) kX13_output_c0.2.2.2.2.2.2.2.1 (t := 24) rfl h (fun h => ?_) (fun h => ?_)
    · skip
      exact kz_weak [(0, .ref (w_adr E.2.1 12 0))] ⟨rfl, trivial⟩ rfl (zt_X13_output_p24 hL  h)
    · skip
      refine kz_iload_n (M := kt_M500) kX13_output_c1.1 rfl ?_
      refine kz_aload_n (M := kt_M500) kX13_output_c1.2.1 rfl ?_
      refine kz_gfiR (M := kt_M500) (c := 12) (o := 0) (w_i w 12 0 135) kX13_output_c1.2.2.1 wf_X13_1404 (.inl rfl) (rd_i_i rfl) ?_
      refine kz_icmp_lt (M := kt_M500) kX13_output_c1.2.2.2.1 (t := 28) rfl h (fun h => ?_) (fun h => ?_)
      · skip
        refine kz_aload_n (M := kt_M500) kX13_output_c1.2.2.2.2.2.2.1 rfl ?_
        refine kz_gfc (M := kt_M500) (x := 4208) (c := 12) (o := 0) kX13_output_c1.2.2.2.2.2.2.2.1 wf_X13_376 (.inl rfl) ?_
        refine kz_iload_n (M := kt_M500) kX13_output_c2.1 rfl ?_
        refine kz_ialdR (M := kt_M500) (n := w_n w 12 0 136) (c := 12) (o := 0) (k := 136) (a := (E.2.1 4208)) (w_a w 12 0 136 (x1).toNatClampNeg) kX13_output_c2.2.1 ow_12_0_136 oa_12_0_136 ot_0 rd_n_i rd_a_i h (fun h => ?_)
        exact kz_weak [(0, .ref (w_adr E.2.1 12 0))] ⟨rfl, trivial⟩ rfl (zt_X13_output_p34 hL  h)
      · skip
        exact kz_weak [(0, .ref (w_adr E.2.1 12 0))] ⟨rfl, trivial⟩ rfl (zt_X13_output_p24 hL  h)
def zb_X13_process_2_p236 (E : zE) (L : Nat) (Q : kx_Rs → wS → Prop) (y0 : Int32) (w : wS) : Prop := Q (.inl (some (.int y0))) w
theorem zt_X13_process_2_p236 {E : zE} {L : Nat} {Q : kx_Rs → wS → Prop} {y0 : Int32} {w : wS} (hL : 22 ≤ L) (h : zb_X13_process_2_p236 E L Q y0 w) : kzE E L kt_M515 236 [(0, .ref (w_adr E.2.1 12 0))] [.int y0] w Q := by
  unfold zb_X13_process_2_p236 at h
  exact kz_iret (M := kt_M515) kX13_process_2_c14.2.2.2.2.1 rfl rfl h
def zb_X13_process_2_p214 (E : zE) (L : Nat) (Q : kx_Rs → wS → Prop) (y0 : Int32) (w : wS) : Prop := Q (.inl (some (.int y0))) w
theorem zt_X13_process_2_p214 {E : zE} {L : Nat} {Q : kx_Rs → wS → Prop} {y0 : Int32} {w : wS} (hL : 22 ≤ L) (h : zb_X13_process_2_p214 E L Q y0 w) : kzE E L kt_M515 214 [(0, .ref (w_adr E.2.1 12 0))] [.int y0] w Q := by
  unfold zb_X13_process_2_p214 at h
  exact kz_iret (M := kt_M515) kX13_process_2_c12.2.2.2.2.2.2.2.1 rfl rfl h
def zb_X13_process_2_p189 (E : zE) (L : Nat) (Q : kx_Rs → wS → Prop) (y0 : Int32) (w : wS) : Prop := Q (.inl (some (.int y0))) w
theorem zt_X13_process_2_p189 {E : zE} {L : Nat} {Q : kx_Rs → wS → Prop} {y0 : Int32} {w : wS} (hL : 22 ≤ L) (h : zb_X13_process_2_p189 E L Q y0 w) : kzE E L kt_M515 189 [(0, .ref (w_adr E.2.1 12 0))] [.int y0] w Q := by
  unfold zb_X13_process_2_p189 at h
  exact kz_iret (M := kt_M515) kX13_process_2_c11.2.1 rfl rfl h
def zb_X13_process_2_p164 (E : zE) (L : Nat) (Q : kx_Rs → wS → Prop) (y0 : Int32) (w : wS) : Prop := Q (.inl (some (.int y0))) w
theorem zt_X13_process_2_p164 {E : zE} {L : Nat} {Q : kx_Rs → wS → Prop} {y0 : Int32} {w : wS} (hL : 22 ≤ L) (h : zb_X13_process_2_p164 E L Q y0 w) : kzE E L kt_M515 164 [(0, .ref (w_adr E.2.1 12 0))] [.int y0] w Q := by
  unfold zb_X13_process_2_p164 at h
  exact kz_iret (M := kt_M515) kX13_process_2_c9.2.2.2.1 rfl rfl h
def zb_X13_process_2_p139 (E : zE) (L : Nat) (Q : kx_Rs → wS → Prop) (y0 : Int32) (w : wS) : Prop := Q (.inl (some (.int y0))) w
theorem zt_X13_process_2_p139 {E : zE} {L : Nat} {Q : kx_Rs → wS → Prop} {y0 : Int32} {w : wS} (hL : 22 ≤ L) (h : zb_X13_process_2_p139 E L Q y0 w) : kzE E L kt_M515 139 [(0, .ref (w_adr E.2.1 12 0))] [.int y0] w Q := by
  unfold zb_X13_process_2_p139 at h
  exact kz_iret (M := kt_M515) kX13_process_2_c7.2.2.2.2.1 rfl rfl h
def zb_X13_process_2_p53 (E : zE) (L : Nat) (Q : kx_Rs → wS → Prop) (x2 : Int32) (x3 : Int32) (y0 : Int32) (w : wS) : Prop := (if x2 = 0 then (kx_inb x3 (w_n w 12 0 147) = true ∧ Q (.inl (some (.int (w_a w 12 0 147 (x3).toNatClampNeg)))) w) else (if x2 = 1 then (kx_inb x3 (w_n w 12 0 147) = true ∧ (if ¬ w_a w 12 0 147 (x3).toNatClampNeg = 7 then (kx_inb x3 (w_n w 12 0 151) = true ∧ zw E (L - 22) kt_M403 [.ref (w_adr E.2.1 12 0), .int (w_a w 12 0 151 (x3).toNatClampNeg), .int 1] w (wk1 (fun v2 w1 => wle w w1 → (kx_inb v2 (w_n w1 12 0 27) = true ∧ zb_X13_process_2_p139 E L Q (w_a w1 12 0 27 (v2).toNatClampNeg) w1)) (fun e w => Q (.inr e) w))) else (kx_inb x3 (w_n w 12 0 153) = true ∧ zb_X13_process_2_p139 E L Q (w_a w 12 0 153 (x3).toNatClampNeg) w))) else (if x2 = 2 then (kx_inb x3 (w_n w 12 0 148) = true ∧ (if 0 ≤ w_a w 12 0 148 (x3).toNatClampNeg then (kx_inb x3 (w_n w 12 0 148) = true ∧ (kx_inb (w_a w 12 0 148 (x3).toNatClampNeg) (w_n w 12 0 146) = true ∧ zb_X13_process_2_p164 E L Q (w_a w 12 0 146 (w_a w 12 0 148 (x3).toNatClampNeg).toNatClampNeg) w)) else zb_X13_process_2_p164 E L Q (-1) w)) else (if x2 = 3 then (if y0 = 0 then zb_X13_process_2_p189 E L Q 0 w else (kx_inb x3 (w_n w 12 0 155) = true ∧ (kx_inb (w_a w 12 0 155 (x3).toNatClampNeg) (w_n w 12 0 111) = true ∧ zb_X13_process_2_p189 E L Q ((w_a w 12 0 111 (w_a w 12 0 155 (x3).toNatClampNeg).toNatClampNeg) / 1024) w))) else (if x2 = 4 then (if y0 = 0 then zb_X13_process_2_p214 E L Q 0 w else (kx_inb x3 (w_n w 12 0 155) = true ∧ (kx_inb (w_a w 12 0 155 (x3).toNatClampNeg) (w_n w 12 0 111) = true ∧ zb_X13_process_2_p214 E L Q ((w_a w 12 0 111 (w_a w 12 0 155 (x3).toNatClampNeg).toNatClampNeg) - (w_a w 12 0 111 (w_a w 12 0 155 (x3).toNatClampNeg).toNatClampNeg) / 1024 * 1024) w))) else (if x2 = 5 then (kx_inb x3 (w_n w 12 0 147) = true ∧ (if ¬ w_a w 12 0 147 (x3).toNatClampNeg = 7 then zb_X13_process_2_p236 E L Q (-1) w else (kx_inb x3 (w_n w 12 0 154) = true ∧ zb_X13_process_2_p236 E L Q (w_a w 12 0 154 (x3).toNatClampNeg) w))) else Q (.inl (some (.int (-1)))) w))))))
theorem zt_X13_process_2_p53 {E : zE} {L : Nat} {Q : kx_Rs → wS → Prop} {x2 : Int32} {x3 : Int32} {y0 : Int32} {w : wS} (hL : 22 ≤ L) (h : zb_X13_process_2_p53 E L Q x2 x3 y0 w) : kzE E L kt_M515 53 [(0, .ref (w_adr E.2.1 12 0)), (2, .int x2), (3, .int x3)] [.int y0] w Q := by
  unfold zb_X13_process_2_p53 at h
  refine kz_sti (M := kt_M515) [(0, .ref (w_adr E.2.1 12 0)), (2, .int x2), (3, .int x3)] kX13_process_2_c3.2.2.2.2.2.2.2.1 (Nat.le_of_ble_eq_true rfl) ⟨⟨rfl, rfl, .inl rfl⟩, ⟨⟨rfl, rfl, .inl rfl⟩, ⟨⟨rfl, rfl, .inr rfl⟩, trivial⟩⟩⟩ rfl ?_
  refine kz_iload_n (M := kt_M515) kX13_process_2_c4.1 rfl ?_
  refine kz_tsw (M := kt_M515) [(0, 96), (1, 103), (2, 140), (3, 165), (4, 190), (5, 215)] [_, _, _, _, _, _] 237 dX13_process_2_p56 (by decide +kernel) h ⟨fun h => ?_, fun h => ?_, fun h => ?_, fun h => ?_, fun h => ?_, fun h => ?_, trivial⟩ (fun h => ?_)
  · skip
    refine kz_aload_n (M := kt_M515) kX13_process_2_c4.2.2.1 rfl ?_
    refine kz_gfc (M := kt_M515) (x := 4219) (c := 12) (o := 0) kX13_process_2_c4.2.2.2.1 wf_X13_394 (.inl rfl) ?_
    refine kz_iload_n (M := kt_M515) kX13_process_2_c4.2.2.2.2.1 rfl ?_
    refine kz_iald (M := kt_M515) (c := 12) (o := 0) (k := 147) (a := (E.2.1 4219)) kX13_process_2_c4.2.2.2.2.2.1 ow_12_0_147 oa_12_0_147 ot_0 h (fun h => ?_)
    exact kz_iret (M := kt_M515) kX13_process_2_c4.2.2.2.2.2.2.1 rfl rfl h
  · skip
    refine kz_aload_n (M := kt_M515) kX13_process_2_c4.2.2.2.2.2.2.2.1 rfl ?_
    refine kz_gfc (M := kt_M515) (x := 4219) (c := 12) (o := 0) kX13_process_2_c5.1 wf_X13_394 (.inl rfl) ?_
    refine kz_iload_n (M := kt_M515) kX13_process_2_c5.2.1 rfl ?_
    refine kz_iald (M := kt_M515) (c := 12) (o := 0) (k := 147) (a := (E.2.1 4219)) kX13_process_2_c5.2.2.1 ow_12_0_147 oa_12_0_147 ot_0 h (fun h => ?_)
    refine kz_bi (M := kt_M515) 7 kX13_process_2_c5.2.2.2.1 rfl ?_
    refine kz_icmp_ne (M := kt_M515) kX13_process_2_c5.2.2.2.2.1 (t := 123) rfl h (fun h => ?_) (fun h => ?_)
    · skip
      refine kz_aload_n (M := kt_M515) kX13_process_2_c6.2.2.1 rfl ?_
      refine kz_gfc (M := kt_M515) (x := 4099) (c := 12) (o := 0) kX13_process_2_c6.2.2.2.1 wf_X13_190 (.inl rfl) ?_
      refine kz_aload_n (M := kt_M515) kX13_process_2_c6.2.2.2.2.1 rfl ?_
      refine kz_aload_n (M := kt_M515) kX13_process_2_c6.2.2.2.2.2.1 rfl ?_
      refine kz_gfc (M := kt_M515) (x := 4223) (c := 12) (o := 0) kX13_process_2_c6.2.2.2.2.2.2.1 wf_X13_406 (.inl rfl) ?_
      refine kz_iload_n (M := kt_M515) kX13_process_2_c6.2.2.2.2.2.2.2.1 rfl ?_
      refine kz_iald (M := kt_M515) (c := 12) (o := 0) (k := 151) (a := (E.2.1 4223)) kX13_process_2_c7.1 ow_12_0_151 oa_12_0_151 ot_0 h (fun h => ?_)
      refine kz_ic (M := kt_M515) 1 kX13_process_2_c7.2.1 rfl ?_
      refine kz_cv1 (M := kt_M515) (c := 12) (o := 0) (As := [.int (w_a w 12 0 151 (x3).toNatClampNeg), .int 1]) (rest := [.ref (E.2.1 4099)]) kX13_process_2_c7.2.2.1 wl_X13_1155 wMv_403 rfl (.inl rfl) rfl (Nat.le_trans (Nat.le_of_ble_eq_true rfl) hL) (Nat.le_of_ble_eq_true rfl) (Nat.le_of_ble_eq_true rfl) h (fun v2 w1 hle h => ?_) (fun _ _ _ h => kzx_no rfl h)
      have h := h hle
      refine kz_iald (M := kt_M515) (c := 12) (o := 0) (k := 27) (a := (E.2.1 4099)) kX13_process_2_c7.2.2.2.1 ow_12_0_27 oa_12_0_27 ot_0 h (fun h => ?_)
      exact kz_weak [(0, .ref (w_adr E.2.1 12 0))] ⟨rfl, trivial⟩ rfl (zt_X13_process_2_p139 hL  h)
    · skip
      refine kz_aload_n (M := kt_M515) kX13_process_2_c5.2.2.2.2.2.1 rfl ?_
      refine kz_gfc (M := kt_M515) (x := 4225) (c := 12) (o := 0) kX13_process_2_c5.2.2.2.2.2.2.1 wf_X13_412 (.inl rfl) ?_
      refine kz_iload_n (M := kt_M515) kX13_process_2_c5.2.2.2.2.2.2.2.1 rfl ?_
      refine kz_iald (M := kt_M515) (c := 12) (o := 0) (k := 153) (a := (E.2.1 4225)) kX13_process_2_c6.1 ow_12_0_153 oa_12_0_153 ot_0 h (fun h => ?_)
      refine kz_goto (M := kt_M515) kX13_process_2_c6.2.1 (t := 139) rfl ?_
      exact kz_weak [(0, .ref (w_adr E.2.1 12 0))] ⟨rfl, trivial⟩ rfl (zt_X13_process_2_p139 hL  h)
  · skip
    refine kz_aload_n (M := kt_M515) kX13_process_2_c7.2.2.2.2.2.1 rfl ?_
    refine kz_gfc (M := kt_M515) (x := 4220) (c := 12) (o := 0) kX13_process_2_c7.2.2.2.2.2.2.1 wf_X13_397 (.inl rfl) ?_
    refine kz_iload_n (M := kt_M515) kX13_process_2_c7.2.2.2.2.2.2.2.1 rfl ?_
    refine kz_iald (M := kt_M515) (c := 12) (o := 0) (k := 148) (a := (E.2.1 4220)) kX13_process_2_c8.1 ow_12_0_148 oa_12_0_148 ot_0 h (fun h => ?_)
    refine kz_if_ge (M := kt_M515) kX13_process_2_c8.2.1 (t := 153) rfl h (fun h => ?_) (fun h => ?_)
    · skip
      refine kz_aload_n (M := kt_M515) kX13_process_2_c8.2.2.2.2.1 rfl ?_
      refine kz_gfc (M := kt_M515) (x := 4218) (c := 12) (o := 0) kX13_process_2_c8.2.2.2.2.2.1 wf_X13_391 (.inl rfl) ?_
      refine kz_aload_n (M := kt_M515) kX13_process_2_c8.2.2.2.2.2.2.1 rfl ?_
      refine kz_gfc (M := kt_M515) (x := 4220) (c := 12) (o := 0) kX13_process_2_c8.2.2.2.2.2.2.2.1 wf_X13_397 (.inl rfl) ?_
      refine kz_iload_n (M := kt_M515) kX13_process_2_c9.1 rfl ?_
      refine kz_iald (M := kt_M515) (c := 12) (o := 0) (k := 148) (a := (E.2.1 4220)) kX13_process_2_c9.2.1 ow_12_0_148 oa_12_0_148 ot_0 h (fun h => ?_)
      refine kz_iald (M := kt_M515) (c := 12) (o := 0) (k := 146) (a := (E.2.1 4218)) kX13_process_2_c9.2.2.1 ow_12_0_146 oa_12_0_146 ot_0 h (fun h => ?_)
      exact kz_weak [(0, .ref (w_adr E.2.1 12 0))] ⟨rfl, trivial⟩ rfl (zt_X13_process_2_p164 hL  h)
    · skip
      refine kz_ic (M := kt_M515) (-1) kX13_process_2_c8.2.2.1 rfl ?_
      refine kz_goto (M := kt_M515) kX13_process_2_c8.2.2.2.1 (t := 164) rfl ?_
      exact kz_weak [(0, .ref (w_adr E.2.1 12 0))] ⟨rfl, trivial⟩ rfl (zt_X13_process_2_p164 hL  h)
  · skip
    refine kz_iload (M := kt_M515) kX13_process_2_c9.2.2.2.2.1 rfl ?_
    refine kz_if_eq (M := kt_M515) kX13_process_2_c9.2.2.2.2.2.1 (t := 188) rfl h (fun h => ?_) (fun h => ?_)
    · skip
      refine kz_ic (M := kt_M515) 0 kX13_process_2_c11.1 rfl ?_
      exact kz_weak [(0, .ref (w_adr E.2.1 12 0))] ⟨rfl, trivial⟩ rfl (zt_X13_process_2_p189 hL  h)
    · skip
      refine kz_aload_n (M := kt_M515) kX13_process_2_c9.2.2.2.2.2.2.1 rfl ?_
      refine kz_gfa (M := kt_M515) (c := 12) (o := 0) kX13_process_2_c9.2.2.2.2.2.2.2.1 wf_X13_350 (.inl rfl) ?_
      refine kz_aload_n (M := kt_M515) kX13_process_2_c10.1 rfl ?_
      refine kz_gfc (M := kt_M515) (x := 4227) (c := 12) (o := 0) kX13_process_2_c10.2.1 wf_X13_418 (.inl rfl) ?_
      refine kz_iload_n (M := kt_M515) kX13_process_2_c10.2.2.1 rfl ?_
      refine kz_iald (M := kt_M515) (c := 12) (o := 0) (k := 155) (a := (E.2.1 4227)) kX13_process_2_c10.2.2.2.1 ow_12_0_155 oa_12_0_155 ot_0 h (fun h => ?_)
      refine kz_iald (M := kt_M515) (c := 12) (o := 0) (k := 111) (a := (w_d w 12 0 111)) kX13_process_2_c10.2.2.2.2.1 ow_12_0_111 oa_12_0_111 ot_0 h (fun h => ?_)
      refine kz_si (M := kt_M515) 1024 kX13_process_2_c10.2.2.2.2.2.1 rfl ?_
      refine kz_idiv (M := kt_M515) kX13_process_2_c10.2.2.2.2.2.2.1 (by decide) ?_
      refine kz_goto (M := kt_M515) kX13_process_2_c10.2.2.2.2.2.2.2.1 (t := 189) rfl ?_
      exact kz_weak [(0, .ref (w_adr E.2.1 12 0))] ⟨rfl, trivial⟩ rfl (zt_X13_process_2_p189 hL  h)
  · skip
    refine kz_iload (M := kt_M515) kX13_process_2_c11.2.2.1 rfl ?_
    refine kz_if_eq (M := kt_M515) kX13_process_2_c11.2.2.2.1 (t := 213) rfl h (fun h => ?_) (fun h => ?_)
    · skip
      refine kz_ic (M := kt_M515) 0 kX13_process_2_c12.2.2.2.2.2.2.1 rfl ?_
      exact kz_weak [(0, .ref (w_adr E.2.1 12 0))] ⟨rfl, trivial⟩ rfl (zt_X13_process_2_p214 hL  h)
    · skip
      refine kz_aload_n (M := kt_M515) kX13_process_2_c11.2.2.2.2.1 rfl ?_
      refine kz_gfa (M := kt_M515) (c := 12) (o := 0) kX13_process_2_c11.2.2.2.2.2.1 wf_X13_350 (.inl rfl) ?_
      refine kz_aload_n (M := kt_M515) kX13_process_2_c11.2.2.2.2.2.2.1 rfl ?_
      refine kz_gfc (M := kt_M515) (x := 4227) (c := 12) (o := 0) kX13_process_2_c11.2.2.2.2.2.2.2.1 wf_X13_418 (.inl rfl) ?_
      refine kz_iload_n (M := kt_M515) kX13_process_2_c12.1 rfl ?_
      refine kz_iald (M := kt_M515) (c := 12) (o := 0) (k := 155) (a := (E.2.1 4227)) kX13_process_2_c12.2.1 ow_12_0_155 oa_12_0_155 ot_0 h (fun h => ?_)
      refine kz_iald (M := kt_M515) (c := 12) (o := 0) (k := 111) (a := (w_d w 12 0 111)) kX13_process_2_c12.2.2.1 ow_12_0_111 oa_12_0_111 ot_0 h (fun h => ?_)
      refine kz_si (M := kt_M515) 1024 kX13_process_2_c12.2.2.2.1 rfl ?_
      refine kz_irem (M := kt_M515) kX13_process_2_c12.2.2.2.2.1 (by decide) ?_
      refine kz_goto (M := kt_M515) kX13_process_2_c12.2.2.2.2.2.1 (t := 214) rfl ?_
      exact kz_weak [(0, .ref (w_adr E.2.1 12 0))] ⟨rfl, trivial⟩ rfl (zt_X13_process_2_p214 hL  h)
  · skip
    refine kz_aload_n (M := kt_M515) kX13_process_2_c13.1 rfl ?_
    refine kz_gfc (M := kt_M515) (x := 4219) (c := 12) (o := 0) kX13_process_2_c13.2.1 wf_X13_394 (.inl rfl) ?_
    refine kz_iload_n (M := kt_M515) kX13_process_2_c13.2.2.1 rfl ?_
    refine kz_iald (M := kt_M515) (c := 12) (o := 0) (k := 147) (a := (E.2.1 4219)) kX13_process_2_c13.2.2.2.1 ow_12_0_147 oa_12_0_147 ot_0 h (fun h => ?_)
    refine kz_bi (M := kt_M515) 7 kX13_process_2_c13.2.2.2.2.1 rfl ?_
    refine kz_icmp_ne (M := kt_M515) kX13_process_2_c13.2.2.2.2.2.1 (t := 235) rfl h (fun h => ?_) (fun h => ?_)
    · skip
      refine kz_ic (M := kt_M515) (-1) kX13_process_2_c14.2.2.2.1 rfl ?_
      exact kz_weak [(0, .ref (w_adr E.2.1 12 0))] ⟨rfl, trivial⟩ rfl (zt_X13_process_2_p236 hL  h)
    · skip
      refine kz_aload_n (M := kt_M515) kX13_process_2_c13.2.2.2.2.2.2.1 rfl ?_
      refine kz_gfc (M := kt_M515) (x := 4226) (c := 12) (o := 0) kX13_process_2_c13.2.2.2.2.2.2.2.1 wf_X13_415 (.inl rfl) ?_
      refine kz_iload_n (M := kt_M515) kX13_process_2_c14.1 rfl ?_
      refine kz_iald (M := kt_M515) (c := 12) (o := 0) (k := 154) (a := (E.2.1 4226)) kX13_process_2_c14.2.1 ow_12_0_154 oa_12_0_154 ot_0 h (fun h => ?_)
      refine kz_goto (M := kt_M515) kX13_process_2_c14.2.2.1 (t := 236) rfl ?_
      exact kz_weak [(0, .ref (w_adr E.2.1 12 0))] ⟨rfl, trivial⟩ rfl (zt_X13_process_2_p236 hL  h)
  · skip
    refine kz_ic (M := kt_M515) (-1) kX13_process_2_c14.2.2.2.2.2.1 rfl ?_
    exact kz_iret (M := kt_M515) kX13_process_2_c14.2.2.2.2.2.2.1 rfl rfl h
def zb_X13_process_2_p48 (E : zE) (L : Nat) (Q : kx_Rs → wS → Prop) (x2 : Int32) (x3 : Int32) (w : wS) : Prop := zb_X13_process_2_p53 E L Q x2 x3 1 w
theorem zt_X13_process_2_p48 {E : zE} {L : Nat} {Q : kx_Rs → wS → Prop} {x2 : Int32} {x3 : Int32} {w : wS} (hL : 22 ≤ L) (h : zb_X13_process_2_p48 E L Q x2 x3 w) : kzE E L kt_M515 48 [(0, .ref (w_adr E.2.1 12 0)), (2, .int x2), (3, .int x3)] [] w Q := by
  unfold zb_X13_process_2_p48 at h
  refine kz_ic (M := kt_M515) 1 kX13_process_2_c3.2.2.2.2.1 rfl ?_
  refine kz_goto (M := kt_M515) kX13_process_2_c3.2.2.2.2.2.1 (t := 53) rfl ?_
  exact kz_weak [(0, .ref (w_adr E.2.1 12 0)), (2, .int x2), (3, .int x3)] ⟨rfl, ⟨rfl, ⟨rfl, trivial⟩⟩⟩ rfl (zt_X13_process_2_p53 hL  h)
def zb_X13_process_2_p21 (E : zE) (L : Nat) (Q : kx_Rs → wS → Prop) (x2 : Int32) (y0 : Int32) (w : wS) : Prop := (if 0 ≤ y0 then (kx_inb y0 (w_n w 12 0 147) = true ∧ (if w_a w 12 0 147 (y0).toNatClampNeg = 1 then zb_X13_process_2_p48 E L Q x2 y0 w else (kx_inb y0 (w_n w 12 0 147) = true ∧ (if ¬ w_a w 12 0 147 (y0).toNatClampNeg = 2 then zb_X13_process_2_p53 E L Q x2 y0 0 w else zb_X13_process_2_p48 E L Q x2 y0 w)))) else Q (.inl (some (.int (-1)))) w)
theorem zt_X13_process_2_p21 {E : zE} {L : Nat} {Q : kx_Rs → wS → Prop} {x2 : Int32} {y0 : Int32} {w : wS} (hL : 22 ≤ L) (h : zb_X13_process_2_p21 E L Q x2 y0 w) : kzE E L kt_M515 21 [(0, .ref (w_adr E.2.1 12 0)), (2, .int x2)] [.int y0] w Q := by
  unfold zb_X13_process_2_p21 at h
  refine kz_sti_n (M := kt_M515) [(0, .ref (w_adr E.2.1 12 0)), (2, .int x2)] kX13_process_2_c1.2.2.2.1 (Nat.le_of_ble_eq_true rfl) ⟨⟨rfl, rfl, .inl rfl⟩, ⟨⟨rfl, rfl, .inr rfl⟩, trivial⟩⟩ rfl ?_
  refine kz_iload_n (M := kt_M515) kX13_process_2_c1.2.2.2.2.1 rfl ?_
  refine kz_if_ge (M := kt_M515) kX13_process_2_c1.2.2.2.2.2.1 (t := 28) rfl h (fun h => ?_) (fun h => ?_)
  · skip
    refine kz_aload_n (M := kt_M515) kX13_process_2_c2.1 rfl ?_
    refine kz_gfc (M := kt_M515) (x := 4219) (c := 12) (o := 0) kX13_process_2_c2.2.1 wf_X13_394 (.inl rfl) ?_
    refine kz_iload_n (M := kt_M515) kX13_process_2_c2.2.2.1 rfl ?_
    refine kz_iald (M := kt_M515) (c := 12) (o := 0) (k := 147) (a := (E.2.1 4219)) kX13_process_2_c2.2.2.2.1 ow_12_0_147 oa_12_0_147 ot_0 h (fun h => ?_)
    refine kz_ic (M := kt_M515) 1 kX13_process_2_c2.2.2.2.2.1 rfl ?_
    refine kz_icmp_eq (M := kt_M515) kX13_process_2_c2.2.2.2.2.2.1 (t := 48) rfl h (fun h => ?_) (fun h => ?_)
    · skip
      exact kz_weak [(0, .ref (w_adr E.2.1 12 0)), (2, .int x2), (3, .int y0)] ⟨rfl, ⟨rfl, ⟨rfl, trivial⟩⟩⟩ rfl (zt_X13_process_2_p48 hL  h)
    · skip
      refine kz_aload_n (M := kt_M515) kX13_process_2_c2.2.2.2.2.2.2.1 rfl ?_
      refine kz_gfc (M := kt_M515) (x := 4219) (c := 12) (o := 0) kX13_process_2_c2.2.2.2.2.2.2.2.1 wf_X13_394 (.inl rfl) ?_
      refine kz_iload_n (M := kt_M515) kX13_process_2_c3.1 rfl ?_
      refine kz_iald (M := kt_M515) (c := 12) (o := 0) (k := 147) (a := (E.2.1 4219)) kX13_process_2_c3.2.1 ow_12_0_147 oa_12_0_147 ot_0 h (fun h => ?_)
      refine kz_ic (M := kt_M515) 2 kX13_process_2_c3.2.2.1 rfl ?_
      refine kz_icmp_ne (M := kt_M515) kX13_process_2_c3.2.2.2.1 (t := 52) rfl h (fun h => ?_) (fun h => ?_)
      · skip
        refine kz_ic (M := kt_M515) 0 kX13_process_2_c3.2.2.2.2.2.2.1 rfl ?_
        exact kz_weak [(0, .ref (w_adr E.2.1 12 0)), (2, .int x2), (3, .int y0)] ⟨rfl, ⟨rfl, ⟨rfl, trivial⟩⟩⟩ rfl (zt_X13_process_2_p53 hL  h)
      · skip
        exact kz_weak [(0, .ref (w_adr E.2.1 12 0)), (2, .int x2), (3, .int y0)] ⟨rfl, ⟨rfl, ⟨rfl, trivial⟩⟩⟩ rfl (zt_X13_process_2_p48 hL  h)
  · skip
    refine kz_ic (M := kt_M515) (-1) kX13_process_2_c1.2.2.2.2.2.2.1 rfl ?_
    exact kz_iret (M := kt_M515) kX13_process_2_c1.2.2.2.2.2.2.2.1 rfl rfl h
def zb_X13_process_2_p0 (E : zE) (L : Nat) (Q : kx_Rs → wS → Prop) (x1 : Int32) (x2 : Int32) (w : wS) : Prop := (if w_i w 12 0 123 = 0 then zb_X13_process_2_p21 E L Q x2 (-1) (ws_i w 12 0 1 0) else zw E (L - 22) kt_M541 [.ref (w_adr E.2.1 12 0), .int x1] (ws_i w 12 0 1 0) (wk1 (fun v2 w1 => wle (ws_i w 12 0 1 0) w1 → zb_X13_process_2_p21 E L Q x2 v2 w1) (fun e w => Q (.inr e) w)))
theorem zt_X13_process_2_p0 {E : zE} {L : Nat} {Q : kx_Rs → wS → Prop} {x1 : Int32} {x2 : Int32} {w : wS} (hL : 22 ≤ L) (h : zb_X13_process_2_p0 E L Q x1 x2 w) : kzE E L kt_M515 0 [(0, .ref (w_adr E.2.1 12 0)), (1, .int x1), (2, .int x2)] [] w Q := by
  unfold zb_X13_process_2_p0 at h
  refine kz_aload_n (M := kt_M515) kX13_process_2_c0.1 rfl ?_
  refine kz_ic (M := kt_M515) 0 kX13_process_2_c0.2.1 rfl ?_
  refine kz_pfi (M := kt_M515) (c := 12) (o := 0) kX13_process_2_c0.2.2.1 wq_X13_451 (.inl rfl) ?_
  refine kz_aload_n (M := kt_M515) kX13_process_2_c0.2.2.2.1 rfl ?_
  refine kz_gfiR (M := kt_M515) (c := 12) (o := 0) (w_i w 12 0 123) kX13_process_2_c0.2.2.2.2.1 wf_X13_1122 (.inl rfl) (rd_i_i rfl) ?_
  refine kz_if_eq (M := kt_M515) kX13_process_2_c0.2.2.2.2.2.1 (t := 20) rfl h (fun h => ?_) (fun h => ?_)
  · skip
    refine kz_ic (M := kt_M515) (-1) kX13_process_2_c1.2.2.1 rfl ?_
    exact kz_weak [(0, .ref (w_adr E.2.1 12 0)), (2, .int x2)] ⟨rfl, ⟨rfl, trivial⟩⟩ rfl (zt_X13_process_2_p21 hL  h)
  · skip
    refine kz_aload_n (M := kt_M515) kX13_process_2_c0.2.2.2.2.2.2.1 rfl ?_
    refine kz_iload_n (M := kt_M515) kX13_process_2_c0.2.2.2.2.2.2.2.1 rfl ?_
    refine kz_cv1 (M := kt_M515) (c := 12) (o := 0) (As := [.int x1]) (rest := []) kX13_process_2_c1.1 wl_X13_1189 wMv_541 rfl (.inl rfl) rfl (Nat.le_trans (Nat.le_of_ble_eq_true rfl) hL) (Nat.le_of_ble_eq_true rfl) (Nat.le_of_ble_eq_true rfl) h (fun v2 w1 hle h => ?_) (fun _ _ _ h => kzx_no rfl h)
    have h := h hle
    refine kz_goto (M := kt_M515) kX13_process_2_c1.2.1 (t := 21) rfl ?_
    exact kz_weak [(0, .ref (w_adr E.2.1 12 0)), (2, .int x2)] ⟨rfl, ⟨rfl, trivial⟩⟩ rfl (zt_X13_process_2_p21 hL  h)
def zL_X13_cell_p63 (E : zE) (L : Nat) (Q : kx_Rs → wS → Prop) (x2 : Int32) (x3 : Int32) (x4 : Int32) (w : wS) : Prop := kzE E L kt_M366 63 [(0, .ref (w_adr E.2.1 12 0)), (2, .int x2), (3, .int x3), (4, .int x4)] [] w Q
def zL_X13_cell_p37 (E : zE) (L : Nat) (Q : kx_Rs → wS → Prop) (x2 : Int32) (x3 : Int32) (w : wS) : Prop := kzE E L kt_M366 37 [(0, .ref (w_adr E.2.1 12 0)), (2, .int x2), (3, .int x3)] [] w Q
def zb_X13_cell_p137 (E : zE) (L : Nat) (Q : kx_Rs → wS → Prop) (x2 : Int32) (x3 : Int32) (w : wS) : Prop := (kx_inb x3 (w_n w 12 0 32) = true ∧ zL_X13_cell_p37 E L Q x2 (w_a w 12 0 32 (x3).toNatClampNeg) w)
theorem zt_X13_cell_p137 {E : zE} {L : Nat} {Q : kx_Rs → wS → Prop} {x2 : Int32} {x3 : Int32} {w : wS} (hL : 22 ≤ L) (h : zb_X13_cell_p137 E L Q x2 x3 w) : kzE E L kt_M366 137 [(0, .ref (w_adr E.2.1 12 0)), (2, .int x2), (3, .int x3)] [] w Q := by
  unfold zb_X13_cell_p137 at h
  refine kz_aload_n (M := kt_M366) kX13_cell_c9.2.2.2.2.1 rfl ?_
  refine kz_gfc (M := kt_M366) (x := 4104) (c := 12) (o := 0) kX13_cell_c9.2.2.2.2.2.1 wf_X13_205 (.inl rfl) ?_
  refine kz_iload_n (M := kt_M366) kX13_cell_c9.2.2.2.2.2.2.1 rfl ?_
  refine kz_iald (M := kt_M366) (c := 12) (o := 0) (k := 32) (a := (E.2.1 4104)) kX13_cell_c9.2.2.2.2.2.2.2.1 ow_12_0_32 oa_12_0_32 ot_0 h (fun h => ?_)
  refine kz_sti_n (M := kt_M366) [(0, .ref (w_adr E.2.1 12 0)), (2, .int x2)] kX13_cell_c10.1 (Nat.le_of_ble_eq_true rfl) ⟨⟨rfl, rfl, .inl rfl⟩, ⟨⟨rfl, rfl, .inr rfl⟩, trivial⟩⟩ rfl ?_
  refine kz_goto (M := kt_M366) kX13_cell_c10.2.1 (t := 37) rfl ?_
  exact kz_weak [(0, .ref (w_adr E.2.1 12 0)), (2, .int x2), (3, .int (w_a w 12 0 32 (x3).toNatClampNeg))] ⟨rfl, ⟨rfl, ⟨rfl, trivial⟩⟩⟩ rfl h
def zb_X13_cell_p63 (E : zE) (L : Nat) (Q : kx_Rs → wS → Prop) (x2 : Int32) (x3 : Int32) (x4 : Int32) (w : wS) : Prop := (if x4 < 0 then zb_X13_cell_p137 E L Q x2 x3 w else (kx_inb x4 (w_n w 12 0 31) = true ∧ zw E (L - 22) kt_M367 [.ref (w_adr E.2.1 12 0), .int (w_i w 12 0 179), .int (w_a w 12 0 31 (x4).toNatClampNeg)] w (wk1 (fun v2 w1 => wle w w1 → (kx_inb x4 (w_n w1 12 0 31) = true ∧ zw E (L - 22) kt_M464 [.ref (w_adr E.2.1 12 0), .int (w_a w1 12 0 31 (x4).toNatClampNeg), .int v2] w1 (wk1 (fun v4 w3 => wle w1 w3 → (if v4 ≤ x2 then (kx_inb x4 (w_n w3 12 0 32) = true ∧ zL_X13_cell_p63 E L Q (x2 - v4) x3 (w_a w3 12 0 32 (x4).toNatClampNeg) w3) else zw E (L - 21) kt_M410 [.ref (w_adr E.2.1 12 0), .int v2] w3 (wk1 (fun v6 w5 => wle w3 w5 → (w_d w5 12 0 111 = w_d w3 12 0 111 ∧ kx_inb (v6 + x2) (w_n w5 12 0 111) = true ∧ Q (.inl (some (.int (w_a w5 12 0 111 ((v6 + x2)).toNatClampNeg)))) w5)) (fun e w => Q (.inr e) w)))) (fun e w => Q (.inr e) w)))) (fun e w => Q (.inr e) w))))
theorem zt_X13_cell_p63 {E : zE} {L : Nat} {Q : kx_Rs → wS → Prop} {x2 : Int32} {x3 : Int32} {x4 : Int32} {w : wS} (hL : 22 ≤ L) (h : zb_X13_cell_p63 E L Q x2 x3 x4 w) : kzE E L kt_M366 63 [(0, .ref (w_adr E.2.1 12 0)), (2, .int x2), (3, .int x3), (4, .int x4)] [] w Q := by
  unfold zb_X13_cell_p63 at h
  refine kz_iload (M := kt_M366) kX13_cell_c4.2.2.2.1 rfl ?_
  refine kz_if_lt (M := kt_M366) kX13_cell_c4.2.2.2.2.1 (t := 137) rfl h (fun h => ?_) (fun h => ?_)
  · skip
    exact kz_weak [(0, .ref (w_adr E.2.1 12 0)), (2, .int x2), (3, .int x3)] ⟨rfl, ⟨rfl, ⟨rfl, trivial⟩⟩⟩ rfl (zt_X13_cell_p137 hL  h)
  · skip
    refine kz_aload_n (M := kt_M366) kX13_cell_c4.2.2.2.2.2.1 rfl ?_
    refine kz_aload_n (M := kt_M366) kX13_cell_c4.2.2.2.2.2.2.1 rfl ?_
    refine kz_gfi (M := kt_M366) (c := 12) (o := 0) kX13_cell_c4.2.2.2.2.2.2.2.1 wf_X13_1495 (.inl rfl) ?_
    refine kz_aload_n (M := kt_M366) kX13_cell_c5.1 rfl ?_
    refine kz_gfc (M := kt_M366) (x := 4103) (c := 12) (o := 0) kX13_cell_c5.2.1 wf_X13_202 (.inl rfl) ?_
    refine kz_iload (M := kt_M366) kX13_cell_c5.2.2.1 rfl ?_
    refine kz_iald (M := kt_M366) (c := 12) (o := 0) (k := 31) (a := (E.2.1 4103)) kX13_cell_c5.2.2.2.1 ow_12_0_31 oa_12_0_31 ot_0 h (fun h => ?_)
    refine kz_cv1 (M := kt_M366) (c := 12) (o := 0) (As := [.int (w_i w 12 0 179), .int (w_a w 12 0 31 (x4).toNatClampNeg)]) (rest := []) kX13_cell_c5.2.2.2.2.1 wl_X13_1248 wMv_367 rfl (.inl rfl) rfl (Nat.le_trans (Nat.le_of_ble_eq_true rfl) hL) (Nat.le_of_ble_eq_true rfl) (Nat.le_of_ble_eq_true rfl) h (fun v2 w1 hle h => ?_) (fun _ _ _ h => kzx_no rfl h)
    have h := h hle
    refine kz_sti (M := kt_M366) [(0, .ref (w_adr E.2.1 12 0)), (2, .int x2), (3, .int x3), (4, .int x4)] kX13_cell_c5.2.2.2.2.2.1 (Nat.le_of_ble_eq_true rfl) ⟨⟨rfl, rfl, .inl rfl⟩, ⟨⟨rfl, rfl, .inl rfl⟩, ⟨⟨rfl, rfl, .inl rfl⟩, ⟨⟨rfl, rfl, .inr rfl⟩, trivial⟩⟩⟩⟩ rfl ?_
    refine kz_aload_n (M := kt_M366) kX13_cell_c5.2.2.2.2.2.2.1 rfl ?_
    refine kz_aload_n (M := kt_M366) kX13_cell_c5.2.2.2.2.2.2.2.1 rfl ?_
    refine kz_gfc (M := kt_M366) (x := 4103) (c := 12) (o := 0) kX13_cell_c6.1 wf_X13_202 (.inl rfl) ?_
    refine kz_iload (M := kt_M366) kX13_cell_c6.2.1 rfl ?_
    refine kz_iald (M := kt_M366) (c := 12) (o := 0) (k := 31) (a := (E.2.1 4103)) kX13_cell_c6.2.2.1 ow_12_0_31 oa_12_0_31 ot_0 h (fun h => ?_)
    refine kz_iload (M := kt_M366) kX13_cell_c6.2.2.2.1 rfl ?_
    refine kz_cv1 (M := kt_M366) (c := 12) (o := 0) (As := [.int (w_a w1 12 0 31 (x4).toNatClampNeg), .int v2]) (rest := []) kX13_cell_c6.2.2.2.2.1 wl_X13_1254 wMv_464 rfl (.inl rfl) rfl (Nat.le_trans (Nat.le_of_ble_eq_true rfl) hL) (Nat.le_of_ble_eq_true rfl) (Nat.le_of_ble_eq_true rfl) h (fun v4 w3 hle h => ?_) (fun _ _ _ h => kzx_no rfl h)
    have h := h hle
    refine kz_sti (M := kt_M366) [(0, .ref (w_adr E.2.1 12 0)), (2, .int x2), (3, .int x3), (4, .int x4), (5, .int v2)] kX13_cell_c6.2.2.2.2.2.1 (Nat.le_of_ble_eq_true rfl) ⟨⟨rfl, rfl, .inl rfl⟩, ⟨⟨rfl, rfl, .inl rfl⟩, ⟨⟨rfl, rfl, .inl rfl⟩, ⟨⟨rfl, rfl, .inl rfl⟩, ⟨⟨rfl, rfl, .inr rfl⟩, trivial⟩⟩⟩⟩⟩ rfl ?_
    refine kz_iload_n (M := kt_M366) kX13_cell_c6.2.2.2.2.2.2.1 rfl ?_
    refine kz_iload (M := kt_M366) kX13_cell_c6.2.2.2.2.2.2.2.1 rfl ?_
    refine kz_icmp_ge (M := kt_M366) kX13_cell_c7.1 (t := 120) rfl h (fun h => ?_) (fun h => ?_)
    · skip
      refine kz_iload_n (M := kt_M366) kX13_cell_c8.2.2.1 rfl ?_
      refine kz_iload (M := kt_M366) kX13_cell_c8.2.2.2.1 rfl ?_
      refine kz_isub (M := kt_M366) kX13_cell_c8.2.2.2.2.1 ?_
      refine kz_sti_n (M := kt_M366) [(0, .ref (w_adr E.2.1 12 0)), (3, .int x3), (4, .int x4)] kX13_cell_c8.2.2.2.2.2.1 (Nat.le_of_ble_eq_true rfl) ⟨⟨rfl, rfl, .inl rfl⟩, ⟨⟨rfl, rfl, .inl rfl⟩, ⟨⟨rfl, rfl, .inl rfl⟩, trivial⟩⟩⟩ rfl ?_
      refine kz_aload_n (M := kt_M366) kX13_cell_c8.2.2.2.2.2.2.1 rfl ?_
      refine kz_gfc (M := kt_M366) (x := 4104) (c := 12) (o := 0) kX13_cell_c8.2.2.2.2.2.2.2.1 wf_X13_205 (.inl rfl) ?_
      refine kz_iload (M := kt_M366) kX13_cell_c9.1 rfl ?_
      refine kz_iald (M := kt_M366) (c := 12) (o := 0) (k := 32) (a := (E.2.1 4104)) kX13_cell_c9.2.1 ow_12_0_32 oa_12_0_32 ot_0 h (fun h => ?_)
      refine kz_sti (M := kt_M366) [(0, .ref (w_adr E.2.1 12 0)), (2, .int (x2 - v4)), (3, .int x3)] kX13_cell_c9.2.2.1 (Nat.le_of_ble_eq_true rfl) ⟨⟨rfl, rfl, .inl rfl⟩, ⟨⟨rfl, rfl, .inl rfl⟩, ⟨⟨rfl, rfl, .inr rfl⟩, trivial⟩⟩⟩ rfl ?_
      refine kz_goto (M := kt_M366) kX13_cell_c9.2.2.2.1 (t := 63) rfl ?_
      exact kz_weak [(0, .ref (w_adr E.2.1 12 0)), (2, .int (x2 - v4)), (3, .int x3), (4, .int (w_a w3 12 0 32 (x4).toNatClampNeg))] ⟨rfl, ⟨rfl, ⟨rfl, ⟨rfl, trivial⟩⟩⟩⟩ rfl h
    · skip
      refine kz_aload_n (M := kt_M366) kX13_cell_c7.2.1 rfl ?_
      refine kz_gfa (M := kt_M366) (c := 12) (o := 0) kX13_cell_c7.2.2.1 wf_X13_350 (.inl rfl) ?_
      refine kz_aload_n (M := kt_M366) kX13_cell_c7.2.2.2.1 rfl ?_
      refine kz_iload (M := kt_M366) kX13_cell_c7.2.2.2.2.1 rfl ?_
      refine kz_cv1 (M := kt_M366) (c := 12) (o := 0) (As := [.int v2]) (rest := [.ref (w_d w3 12 0 111)]) kX13_cell_c7.2.2.2.2.2.1 wl_X13_1177 wMv_410 rfl (.inl rfl) rfl (Nat.le_trans (Nat.le_of_ble_eq_true rfl) hL) (Nat.le_of_ble_eq_true rfl) (Nat.le_of_ble_eq_true rfl) h (fun v6 w5 hle h => ?_) (fun _ _ _ h => kzx_no rfl h)
      have h := h hle
      refine kz_iload_n (M := kt_M366) kX13_cell_c7.2.2.2.2.2.2.1 rfl ?_
      refine kz_iadd (M := kt_M366) kX13_cell_c7.2.2.2.2.2.2.2.1 ?_
      obtain ⟨h0, h⟩ := h
      refine kz_iald (M := kt_M366) (c := 12) (o := 0) (k := 111) (a := (w_d w3 12 0 111)) kX13_cell_c8.1 ow_12_0_111 h0 ot_0 h (fun h => ?_)
      exact kz_iret (M := kt_M366) kX13_cell_c8.2.1 rfl rfl h
def zb_X13_cell_p37 (E : zE) (L : Nat) (Q : kx_Rs → wS → Prop) (x2 : Int32) (x3 : Int32) (w : wS) : Prop := (if x3 < 0 then Q (.inl (some (.int 0))) w else (kx_inb x3 (w_n w 12 0 26) = true ∧ (if w_a w 12 0 26 (x3).toNatClampNeg = 30 then (kx_inb x3 (w_n w 12 0 29) = true ∧ zL_X13_cell_p63 E L Q x2 x3 (w_a w 12 0 29 (x3).toNatClampNeg) w) else zb_X13_cell_p137 E L Q x2 x3 w)))
theorem zt_X13_cell_p37 {E : zE} {L : Nat} {Q : kx_Rs → wS → Prop} {x2 : Int32} {x3 : Int32} {w : wS} (hL : 22 ≤ L) (h : zb_X13_cell_p37 E L Q x2 x3 w) : kzE E L kt_M366 37 [(0, .ref (w_adr E.2.1 12 0)), (2, .int x2), (3, .int x3)] [] w Q := by
  unfold zb_X13_cell_p37 at h
  refine kz_iload_n (M := kt_M366) kX13_cell_c2.2.2.2.2.2.1 rfl ?_
  refine kz_if_lt (M := kt_M366) kX13_cell_c2.2.2.2.2.2.2.1 (t := 147) rfl h (fun h => ?_) (fun h => ?_)
  · skip
    refine kz_ic (M := kt_M366) 0 kX13_cell_c10.2.2.1 rfl ?_
    exact kz_iret (M := kt_M366) kX13_cell_c10.2.2.2.1 rfl rfl h
  · skip
    refine kz_aload_n (M := kt_M366) kX13_cell_c2.2.2.2.2.2.2.2.1 rfl ?_
    refine kz_gfc (M := kt_M366) (x := 4098) (c := 12) (o := 0) kX13_cell_c3.1 wf_X13_187 (.inl rfl) ?_
    refine kz_iload_n (M := kt_M366) kX13_cell_c3.2.1 rfl ?_
    refine kz_iald (M := kt_M366) (c := 12) (o := 0) (k := 26) (a := (E.2.1 4098)) kX13_cell_c3.2.2.1 ow_12_0_26 oa_12_0_26 ot_0 h (fun h => ?_)
    refine kz_bi (M := kt_M366) 30 kX13_cell_c3.2.2.2.1 rfl ?_
    refine kz_icmp_eq (M := kt_M366) kX13_cell_c3.2.2.2.2.1 (t := 55) rfl h (fun h => ?_) (fun h => ?_)
    · skip
      refine kz_aload_n (M := kt_M366) kX13_cell_c3.2.2.2.2.2.2.1 rfl ?_
      refine kz_gfc (M := kt_M366) (x := 4101) (c := 12) (o := 0) kX13_cell_c3.2.2.2.2.2.2.2.1 wf_X13_196 (.inl rfl) ?_
      refine kz_iload_n (M := kt_M366) kX13_cell_c4.1 rfl ?_
      refine kz_iald (M := kt_M366) (c := 12) (o := 0) (k := 29) (a := (E.2.1 4101)) kX13_cell_c4.2.1 ow_12_0_29 oa_12_0_29 ot_0 h (fun h => ?_)
      refine kz_sti (M := kt_M366) [(0, .ref (w_adr E.2.1 12 0)), (2, .int x2), (3, .int x3)] kX13_cell_c4.2.2.1 (Nat.le_of_ble_eq_true rfl) ⟨⟨rfl, rfl, .inl rfl⟩, ⟨⟨rfl, rfl, .inl rfl⟩, ⟨⟨rfl, rfl, .inr rfl⟩, trivial⟩⟩⟩ rfl ?_
      exact kz_weak [(0, .ref (w_adr E.2.1 12 0)), (2, .int x2), (3, .int x3), (4, .int (w_a w 12 0 29 (x3).toNatClampNeg))] ⟨rfl, ⟨rfl, ⟨rfl, ⟨rfl, trivial⟩⟩⟩⟩ rfl h
    · skip
      refine kz_goto (M := kt_M366) kX13_cell_c3.2.2.2.2.2.1 (t := 137) rfl ?_
      exact kz_weak [(0, .ref (w_adr E.2.1 12 0)), (2, .int x2), (3, .int x3)] ⟨rfl, ⟨rfl, ⟨rfl, trivial⟩⟩⟩ rfl (zt_X13_cell_p137 hL  h)
def zb_X13_cell_p23 (E : zE) (L : Nat) (Q : kx_Rs → wS → Prop) (w : wS) : Prop := Q (.inl (some (.int 0))) w
theorem zt_X13_cell_p23 {E : zE} {L : Nat} {Q : kx_Rs → wS → Prop} {w : wS} (hL : 22 ≤ L) (h : zb_X13_cell_p23 E L Q  w) : kzE E L kt_M366 23 [(0, .ref (w_adr E.2.1 12 0))] [] w Q := by
  unfold zb_X13_cell_p23 at h
  refine kz_ic (M := kt_M366) 0 kX13_cell_c1.2.2.2.1 rfl ?_
  exact kz_iret (M := kt_M366) kX13_cell_c1.2.2.2.2.1 rfl rfl h
def zb_X13_cell_p0 (E : zE) (L : Nat) (Q : kx_Rs → wS → Prop) (x1 : Int32) (w : wS) : Prop := (if w_i w 12 0 123 = 0 then zb_X13_cell_p23 E L Q (ws_i w 12 0 1 0) else (if w_i w 12 0 125 = 0 then zb_X13_cell_p23 E L Q (ws_i w 12 0 1 0) else (if 0 ≤ x1 then (kx_inb (w_i w 12 0 43) (w_n w 12 0 28) = true ∧ zL_X13_cell_p37 E L Q x1 (w_a w 12 0 28 (w_i w 12 0 43).toNatClampNeg) (ws_i w 12 0 1 0)) else zb_X13_cell_p23 E L Q (ws_i w 12 0 1 0))))
theorem zt_X13_cell_p0 {E : zE} {L : Nat} {Q : kx_Rs → wS → Prop} {x1 : Int32} {w : wS} (hL : 22 ≤ L) (h : zb_X13_cell_p0 E L Q x1 w) : kzE E L kt_M366 0 [(0, .ref (w_adr E.2.1 12 0)), (1, .int x1)] [] w Q := by
  unfold zb_X13_cell_p0 at h
  refine kz_aload_n (M := kt_M366) kX13_cell_c0.1 rfl ?_
  refine kz_ic (M := kt_M366) 0 kX13_cell_c0.2.1 rfl ?_
  refine kz_pfi (M := kt_M366) (c := 12) (o := 0) kX13_cell_c0.2.2.1 wq_X13_451 (.inl rfl) ?_
  refine kz_aload_n (M := kt_M366) kX13_cell_c0.2.2.2.1 rfl ?_
  refine kz_gfiR (M := kt_M366) (c := 12) (o := 0) (w_i w 12 0 123) kX13_cell_c0.2.2.2.2.1 wf_X13_1122 (.inl rfl) (rd_i_i rfl) ?_
  refine kz_if_eq (M := kt_M366) kX13_cell_c0.2.2.2.2.2.1 (t := 23) rfl h (fun h => ?_) (fun h => ?_)
  · skip
    exact kz_weak [(0, .ref (w_adr E.2.1 12 0))] ⟨rfl, trivial⟩ rfl (zt_X13_cell_p23 hL  h)
  · skip
    refine kz_aload_n (M := kt_M366) kX13_cell_c0.2.2.2.2.2.2.1 rfl ?_
    refine kz_gfiR (M := kt_M366) (c := 12) (o := 0) (w_i w 12 0 125) kX13_cell_c0.2.2.2.2.2.2.2.1 wf_X13_1313 (.inl rfl) (rd_i_i rfl) ?_
    refine kz_if_eq (M := kt_M366) kX13_cell_c1.1 (t := 23) rfl h (fun h => ?_) (fun h => ?_)
    · skip
      exact kz_weak [(0, .ref (w_adr E.2.1 12 0))] ⟨rfl, trivial⟩ rfl (zt_X13_cell_p23 hL  h)
    · skip
      refine kz_iload_n (M := kt_M366) kX13_cell_c1.2.1 rfl ?_
      refine kz_if_ge (M := kt_M366) kX13_cell_c1.2.2.1 (t := 25) rfl h (fun h => ?_) (fun h => ?_)
      · skip
        refine kz_iload_n (M := kt_M366) kX13_cell_c1.2.2.2.2.2.1 rfl ?_
        refine kz_sti_n (M := kt_M366) [(0, .ref (w_adr E.2.1 12 0))] kX13_cell_c1.2.2.2.2.2.2.1 (Nat.le_of_ble_eq_true rfl) ⟨⟨rfl, rfl, .inl rfl⟩, trivial⟩ rfl ?_
        refine kz_aload_n (M := kt_M366) kX13_cell_c1.2.2.2.2.2.2.2.1 rfl ?_
        refine kz_gfc (M := kt_M366) (x := 4100) (c := 12) (o := 0) kX13_cell_c2.1 wf_X13_193 (.inl rfl) ?_
        refine kz_aload_n (M := kt_M366) kX13_cell_c2.2.1 rfl ?_
        refine kz_gfiR (M := kt_M366) (c := 12) (o := 0) (w_i w 12 0 43) kX13_cell_c2.2.2.1 wf_X13_713 (.inl rfl) (rd_i_i rfl) ?_
        refine kz_ialdR (M := kt_M366) (n := w_n w 12 0 28) (c := 12) (o := 0) (k := 28) (a := (E.2.1 4100)) (w_a w 12 0 28 (w_i w 12 0 43).toNatClampNeg) kX13_cell_c2.2.2.2.1 ow_12_0_28 oa_12_0_28 ot_0 rd_n_i rd_a_i h (fun h => ?_)
        refine kz_sti_n (M := kt_M366) [(0, .ref (w_adr E.2.1 12 0)), (2, .int x1)] kX13_cell_c2.2.2.2.2.1 (Nat.le_of_ble_eq_true rfl) ⟨⟨rfl, rfl, .inl rfl⟩, ⟨⟨rfl, rfl, .inr rfl⟩, trivial⟩⟩ rfl ?_
        exact kz_weak [(0, .ref (w_adr E.2.1 12 0)), (2, .int x1), (3, .int (w_a w 12 0 28 (w_i w 12 0 43).toNatClampNeg))] ⟨rfl, ⟨rfl, ⟨rfl, trivial⟩⟩⟩ rfl h
      · skip
        exact kz_weak [(0, .ref (w_adr E.2.1 12 0))] ⟨rfl, trivial⟩ rfl (zt_X13_cell_p23 hL  h)
def zb_X13_meeting_p40 (E : zE) (L : Nat) (Q : kx_Rs → wS → Prop) (w : wS) : Prop := Q (.inl (some (.int (-1)))) w
theorem zt_X13_meeting_p40 {E : zE} {L : Nat} {Q : kx_Rs → wS → Prop} {w : wS} (hL : 19 ≤ L) (h : zb_X13_meeting_p40 E L Q  w) : kzE E L kt_M469 40 [(0, .ref (w_adr E.2.1 12 0))] [] w Q := by
  unfold zb_X13_meeting_p40 at h
  refine kz_ic (M := kt_M469) (-1) kX13_meeting_c2.2.2.2.2.1 rfl ?_
  exact kz_iret (M := kt_M469) kX13_meeting_c2.2.2.2.2.2.1 rfl rfl h
def zb_X13_meeting_p0 (E : zE) (L : Nat) (Q : kx_Rs → wS → Prop) (x1 : Int32) (x2 : Int32) (w : wS) : Prop := (if w_i w 12 0 123 = 0 then zb_X13_meeting_p40 E L Q (ws_i w 12 0 1 0) else (if x1 < 0 then zb_X13_meeting_p40 E L Q (ws_i w 12 0 1 0) else (if 64 ≤ x1 then zb_X13_meeting_p40 E L Q (ws_i w 12 0 1 0) else (if w_i w 12 0 130 ≤ x1 then zb_X13_meeting_p40 E L Q (ws_i w 12 0 1 0) else (if x2 < 0 then zb_X13_meeting_p40 E L Q (ws_i w 12 0 1 0) else (if x2 ≤ 6 then (kx_inb ((7 * ((((w_i w 12 0 130) - 1) - x1) - (((w_i w 12 0 130) - 1) - x1) / 64 * 64)) + x2) (w_n w 12 0 142) = true ∧ Q (.inl (some (.int (w_a w 12 0 142 (((7 * ((((w_i w 12 0 130) - 1) - x1) - (((w_i w 12 0 130) - 1) - x1) / 64 * 64)) + x2)).toNatClampNeg)))) (ws_i w 12 0 1 0)) else zb_X13_meeting_p40 E L Q (ws_i w 12 0 1 0)))))))
theorem zt_X13_meeting_p0 {E : zE} {L : Nat} {Q : kx_Rs → wS → Prop} {x1 : Int32} {x2 : Int32} {w : wS} (hL : 19 ≤ L) (h : zb_X13_meeting_p0 E L Q x1 x2 w) : kzE E L kt_M469 0 [(0, .ref (w_adr E.2.1 12 0)), (1, .int x1), (2, .int x2)] [] w Q := by
  unfold zb_X13_meeting_p0 at h
  refine kz_aload_n (M := kt_M469) kX13_meeting_c0.1 rfl ?_
  refine kz_ic (M := kt_M469) 0 kX13_meeting_c0.2.1 rfl ?_
  refine kz_pfi (M := kt_M469) (c := 12) (o := 0) kX13_meeting_c0.2.2.1 wq_X13_451 (.inl rfl) ?_
  refine kz_aload_n (M := kt_M469) kX13_meeting_c0.2.2.2.1 rfl ?_
  refine kz_gfiR (M := kt_M469) (c := 12) (o := 0) (w_i w 12 0 123) kX13_meeting_c0.2.2.2.2.1 wf_X13_1122 (.inl rfl) (rd_i_i rfl) ?_
  refine kz_if_eq (M := kt_M469) kX13_meeting_c0.2.2.2.2.2.1 (t := 40) rfl h (fun h => ?_) (fun h => ?_)
  · skip
    exact kz_weak [(0, .ref (w_adr E.2.1 12 0))] ⟨rfl, trivial⟩ rfl (zt_X13_meeting_p40 hL  h)
  · skip
    refine kz_iload_n (M := kt_M469) kX13_meeting_c0.2.2.2.2.2.2.1 rfl ?_
    refine kz_if_lt (M := kt_M469) kX13_meeting_c0.2.2.2.2.2.2.2.1 (t := 40) rfl h (fun h => ?_) (fun h => ?_)
    · skip
      exact kz_weak [(0, .ref (w_adr E.2.1 12 0))] ⟨rfl, trivial⟩ rfl (zt_X13_meeting_p40 hL  h)
    · skip
      refine kz_iload_n (M := kt_M469) kX13_meeting_c1.1 rfl ?_
      refine kz_bi (M := kt_M469) 64 kX13_meeting_c1.2.1 rfl ?_
      refine kz_icmp_ge (M := kt_M469) kX13_meeting_c1.2.2.1 (t := 40) rfl h (fun h => ?_) (fun h => ?_)
      · skip
        exact kz_weak [(0, .ref (w_adr E.2.1 12 0))] ⟨rfl, trivial⟩ rfl (zt_X13_meeting_p40 hL  h)
      · skip
        refine kz_iload_n (M := kt_M469) kX13_meeting_c1.2.2.2.1 rfl ?_
        refine kz_aload_n (M := kt_M469) kX13_meeting_c1.2.2.2.2.1 rfl ?_
        refine kz_gfiR (M := kt_M469) (c := 12) (o := 0) (w_i w 12 0 130) kX13_meeting_c1.2.2.2.2.2.1 wf_X13_1428 (.inl rfl) (rd_i_i rfl) ?_
        refine kz_icmp_ge (M := kt_M469) kX13_meeting_c1.2.2.2.2.2.2.1 (t := 40) rfl h (fun h => ?_) (fun h => ?_)
        · skip
          exact kz_weak [(0, .ref (w_adr E.2.1 12 0))] ⟨rfl, trivial⟩ rfl (zt_X13_meeting_p40 hL  h)
        · skip
          refine kz_iload_n (M := kt_M469) kX13_meeting_c1.2.2.2.2.2.2.2.1 rfl ?_
          refine kz_if_lt (M := kt_M469) kX13_meeting_c2.1 (t := 40) rfl h (fun h => ?_) (fun h => ?_)
          · skip
            exact kz_weak [(0, .ref (w_adr E.2.1 12 0))] ⟨rfl, trivial⟩ rfl (zt_X13_meeting_p40 hL  h)
          · skip
            refine kz_iload_n (M := kt_M469) kX13_meeting_c2.2.1 rfl ?_
            refine kz_bi (M := kt_M469) 6 kX13_meeting_c2.2.2.1 rfl ?_
            refine kz_icmp_le (M := kt_M469) kX13_meeting_c2.2.2.2.1 (t := 42) rfl h (fun h => ?_) (fun h => ?_)
            · skip
              refine kz_aload_n (M := kt_M469) kX13_meeting_c2.2.2.2.2.2.2.1 rfl ?_
              refine kz_gfc (M := kt_M469) (x := 4214) (c := 12) (o := 0) kX13_meeting_c2.2.2.2.2.2.2.2.1 wf_X13_382 (.inl rfl) ?_
              refine kz_bi (M := kt_M469) 7 kX13_meeting_c3.1 rfl ?_
              refine kz_aload_n (M := kt_M469) kX13_meeting_c3.2.1 rfl ?_
              refine kz_gfiR (M := kt_M469) (c := 12) (o := 0) (w_i w 12 0 130) kX13_meeting_c3.2.2.1 wf_X13_1428 (.inl rfl) (rd_i_i rfl) ?_
              refine kz_ic (M := kt_M469) 1 kX13_meeting_c3.2.2.2.1 rfl ?_
              refine kz_isub (M := kt_M469) kX13_meeting_c3.2.2.2.2.1 ?_
              refine kz_iload_n (M := kt_M469) kX13_meeting_c3.2.2.2.2.2.1 rfl ?_
              refine kz_isub (M := kt_M469) kX13_meeting_c3.2.2.2.2.2.2.1 ?_
              refine kz_bi (M := kt_M469) 64 kX13_meeting_c3.2.2.2.2.2.2.2.1 rfl ?_
              refine kz_irem (M := kt_M469) kX13_meeting_c4.1 (by decide) ?_
              refine kz_imul (M := kt_M469) kX13_meeting_c4.2.1 ?_
              refine kz_iload_n (M := kt_M469) kX13_meeting_c4.2.2.1 rfl ?_
              refine kz_iadd (M := kt_M469) kX13_meeting_c4.2.2.2.1 ?_
              refine kz_ialdR (M := kt_M469) (n := w_n w 12 0 142) (c := 12) (o := 0) (k := 142) (a := (E.2.1 4214)) (w_a w 12 0 142 (((7 * ((((w_i w 12 0 130) - 1) - x1) - (((w_i w 12 0 130) - 1) - x1) / 64 * 64)) + x2)).toNatClampNeg) kX13_meeting_c4.2.2.2.2.1 ow_12_0_142 oa_12_0_142 ot_0 rd_n_i rd_a_i h (fun h => ?_)
              exact kz_iret (M := kt_M469) kX13_meeting_c4.2.2.2.2.2.1 rfl rfl h
            · skip
              exact kz_weak [(0, .ref (w_adr E.2.1 12 0))] ⟨rfl, trivial⟩ rfl (zt_X13_meeting_p40 hL  h)
def zb_X13_clashes_p20 (E : zE) (L : Nat) (Q : kx_Rs → wS → Prop) (y0 : Int32) (w : wS) : Prop := Q (.inl (some (.int y0))) w
theorem zt_X13_clashes_p20 {E : zE} {L : Nat} {Q : kx_Rs → wS → Prop} {y0 : Int32} {w : wS} (hL : 19 ≤ L) (h : zb_X13_clashes_p20 E L Q y0 w) : kzE E L kt_M372 20 [(0, .ref (w_adr E.2.1 12 0))] [.int y0] w Q := by
  unfold zb_X13_clashes_p20 at h
  exact kz_iret (M := kt_M372) kX13_clashes_c1.2.2.1 rfl rfl h
def zb_X13_clashes_p0 (E : zE) (L : Nat) (Q : kx_Rs → wS → Prop) (w : wS) : Prop := (if w_i w 12 0 123 = 0 then zb_X13_clashes_p20 E L Q 0 (ws_i w 12 0 1 0) else zb_X13_clashes_p20 E L Q (w_i w 12 0 132) (ws_i w 12 0 1 0))
theorem zt_X13_clashes_p0 {E : zE} {L : Nat} {Q : kx_Rs → wS → Prop} {w : wS} (hL : 19 ≤ L) (h : zb_X13_clashes_p0 E L Q  w) : kzE E L kt_M372 0 [(0, .ref (w_adr E.2.1 12 0))] [] w Q := by
  unfold zb_X13_clashes_p0 at h
  refine kz_aload_n (M := kt_M372) kX13_clashes_c0.1 rfl ?_
  refine kz_ic (M := kt_M372) 0 kX13_clashes_c0.2.1 rfl ?_
  refine kz_pfi (M := kt_M372) (c := 12) (o := 0) kX13_clashes_c0.2.2.1 wq_X13_451 (.inl rfl) ?_
  refine kz_aload_n (M := kt_M372) kX13_clashes_c0.2.2.2.1 rfl ?_
  refine kz_gfiR (M := kt_M372) (c := 12) (o := 0) (w_i w 12 0 123) kX13_clashes_c0.2.2.2.2.1 wf_X13_1122 (.inl rfl) (rd_i_i rfl) ?_
  refine kz_if_eq (M := kt_M372) kX13_clashes_c0.2.2.2.2.2.1 (t := 19) rfl h (fun h => ?_) (fun h => ?_)
  · skip
    refine kz_ic (M := kt_M372) 0 kX13_clashes_c1.2.1 rfl ?_
    exact kz_weak [(0, .ref (w_adr E.2.1 12 0))] ⟨rfl, trivial⟩ rfl (zt_X13_clashes_p20 hL  h)
  · skip
    refine kz_aload_n (M := kt_M372) kX13_clashes_c0.2.2.2.2.2.2.1 rfl ?_
    refine kz_gfiR (M := kt_M372) (c := 12) (o := 0) (w_i w 12 0 132) kX13_clashes_c0.2.2.2.2.2.2.2.1 wf_X13_1198 (.inl rfl) (rd_i_i rfl) ?_
    refine kz_goto (M := kt_M372) kX13_clashes_c1.1 (t := 20) rfl ?_
    exact kz_weak [(0, .ref (w_adr E.2.1 12 0))] ⟨rfl, trivial⟩ rfl (zt_X13_clashes_p20 hL  h)
