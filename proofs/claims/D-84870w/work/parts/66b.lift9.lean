/-! ===== methods over the typed state (printed by tools/gen_lift.py) ===== -/
set_option maxRecDepth 100000
theorem zs_X9_206 {E : zE} : ∃ r n d, kx_fl (zV E) "MeetingHouse$Compiler" 206 = some (r, n, d) ∧ kx_sv (zV E) r n d = some (va_rf (some (E.1.1 28))) := ⟨_, _, _, (show kt_get kt_flA "MeetingHouse$Compiler" 206 = some ("MeetingHouse$Kind", "VALUE", "LMeetingHouse$Kind;") from by decide +kernel), kx_sv_E.trans (kw_sv_en zen_28)⟩
theorem zs_X9_282 {E : zE} : ∃ r n d, kx_fl (zV E) "MeetingHouse$Compiler" 282 = some (r, n, d) ∧ kx_sv (zV E) r n d = some (va_rf (some (E.1.1 58))) := ⟨_, _, _, (show kt_get kt_flA "MeetingHouse$Compiler" 282 = some ("MeetingHouse$What", "TIMER", "LMeetingHouse$What;") from by decide +kernel), kx_sv_E.trans (kw_sv_en zen_58)⟩
theorem zs_X9_296 {E : zE} : ∃ r n d, kx_fl (zV E) "MeetingHouse$Compiler" 296 = some (r, n, d) ∧ kx_sv (zV E) r n d = some (va_rf (some (E.1.1 59))) := ⟨_, _, _, (show kt_get kt_flA "MeetingHouse$Compiler" 296 = some ("MeetingHouse$What", "TAG", "LMeetingHouse$What;") from by decide +kernel), kx_sv_E.trans (kw_sv_en zen_59)⟩
theorem wq_X9_312 {adE adK adV : Nat → Nat} {zr : Nat → Value} {b L0 : Nat} {xs : Nat → Int32} {lo : Nat} : wP (kw_V adE adK adV zr b L0 xs lo) wG "MeetingHouse$Compiler" 312 14 19 0 .int := wPb_ok (by decide +kernel) wf_X9_312 (r := "MeetingHouse$Node") (n := "value") (d := "I") (by decide +kernel) (by decide +kernel)
def zb_X9_act_p0 (E : zE) (L : Nat) (Q : kx_Rs → wS → Prop) (x1 : Option Nat) (w : wS) : Prop := (∃ p1, x1 = some p1 ∧ w_l w E.2.1 14 p1 ∧ zw E (L - 22) kt_M25 [.ref (w_adr E.2.1 8 0), .int 0, .int (w_i w 14 p1 2)] w (wk0 (fun w2 => wle w w2 → Q (.inl none) w2) (fun e w => Q (.inr e) w)))
theorem zt_X9_act_p0 {E : zE} {L : Nat} {Q : kx_Rs → wS → Prop} {x1 : Option Nat} {w : wS} (hL : 22 ≤ L) (h : zb_X9_act_p0 E L Q x1 w) : kzE E L kt_M15 0 [(0, .ref (w_adr E.2.1 8 0)), (1, va_rf (x1))] [] w Q := by
  unfold zb_X9_act_p0 at h
  refine kz_aload_n (M := kt_M15) kX9_act_c0.1 rfl ?_
  refine kz_ic (M := kt_M15) 0 kX9_act_c0.2.1 rfl ?_
  refine kz_aload_nv (M := kt_M15) (x := x1) kX9_act_c0.2.2.1 rfl ?_
  obtain ⟨p1, hxp1, hlp1, h⟩ := h
  refine kz_nz0 (x := x1) hxp1 ?_
  refine kz_gfi (M := kt_M15) (c := 14) (o := p1) kX9_act_c0.2.2.2.1 wf_X9_166 (.inr (by exact hlp1)) ?_
  refine kz_cv0 (M := kt_M15) (c := 8) (o := 0) (As := [.int 0, .int (w_i w 14 p1 2)]) (rest := []) kX9_act_c0.2.2.2.2.1 wl_X9_42 wMv_25 rfl (.inl rfl) rfl (Nat.le_trans (Nat.le_of_ble_eq_true rfl) hL) (Nat.le_of_ble_eq_true rfl) (Nat.le_of_ble_eq_true rfl) h (fun w2 hle h => ?_) (fun _ _ _ h => kzx_no rfl h)
  have h := h hle
  have hlp1 := w_l_le hlp1 hle
  exact kz_ret (M := kt_M15) kX9_act_c0.2.2.2.2.2.1 rfl h
def zL_X9_assign_p122 (E : zE) (L : Nat) (Q : kx_Rs → wS → Prop) (x3 : Option Nat) (w : wS) : Prop := kzE E L kt_M20 122 [(0, .ref (w_adr E.2.1 8 0)), (3, va_rf (x3))] [] w Q
def zL_X9_assign_p75 (E : zE) (L : Nat) (Q : kx_Rs → wS → Prop) (x1 : Option Nat) (x2 : Int32) (x3 : Option Nat) (w : wS) : Prop := kzE E L kt_M20 75 [(0, .ref (w_adr E.2.1 8 0)), (1, va_rf (x1)), (2, .int x2), (3, va_rf (x3))] [] w Q
def zL_X9_assign_p12 (E : zE) (L : Nat) (Q : kx_Rs → wS → Prop) (x1 : Option Nat) (x2 : Int32) (x3 : Option Nat) (w : wS) : Prop := kzE E L kt_M20 12 [(0, .ref (w_adr E.2.1 8 0)), (1, va_rf (x1)), (2, .int x2), (3, va_rf (x3))] [] w Q
def zb_X9_assign_p142 (E : zE) (L : Nat) (Q : kx_Rs → wS → Prop) (x3 : Option Nat) (y0 : Int32) (w : wS) : Prop := zw E (L - 22) kt_M219 [.ref (w_adr E.2.1 9 0), .int y0] w (wk0 (fun w1 => wle w w1 → (∃ p3, x3 = some p3 ∧ w_l w1 E.2.1 14 p3 ∧ zL_X9_assign_p122 E L Q (w_p w1 14 p3 7) w1)) (fun e w => Q (.inr e) w))
theorem zt_X9_assign_p142 {E : zE} {L : Nat} {Q : kx_Rs → wS → Prop} {x3 : Option Nat} {y0 : Int32} {w : wS} (hL : 23 ≤ L) (h : zb_X9_assign_p142 E L Q x3 y0 w) : kzE E L kt_M20 142 [(0, .ref (w_adr E.2.1 8 0)), (3, va_rf (x3))] [.int y0, .ref (w_adr E.2.1 9 0)] w Q := by
  unfold zb_X9_assign_p142 at h
  refine kz_cv0 (M := kt_M20) (c := 9) (o := 0) (As := [.int y0]) (rest := []) kX9_assign_c9.1 wl_X9_38 wMv_219 rfl (.inl rfl) rfl (Nat.le_trans (Nat.le_of_ble_eq_true rfl) hL) (Nat.le_of_ble_eq_true rfl) (Nat.le_of_ble_eq_true rfl) h (fun w1 hle h => ?_) (fun _ _ _ h => kzx_no rfl h)
  have h := h hle
  refine kz_aload_nv (M := kt_M20) (x := x3) kX9_assign_c9.2.1 rfl ?_
  obtain ⟨p3, hxp3, hlp3, h⟩ := h
  refine kz_nz0 (x := x3) hxp3 ?_
  refine kz_gfp (M := kt_M20) (c := 14) (o := p3) kX9_assign_c9.2.2.1 wf_X9_129 (.inr (by exact hlp3)) ?_
  refine kz_stv_n (M := kt_M20) (x := w_p w1 14 p3 7) [(0, .ref (w_adr E.2.1 8 0))] kX9_assign_c9.2.2.2.1 (Nat.le_of_ble_eq_true rfl) ⟨⟨rfl, rfl, .inl rfl⟩, trivial⟩ rfl ?_
  refine kz_goto (M := kt_M20) kX9_assign_c9.2.2.2.2.1 (t := 122) rfl ?_
  exact kz_weak [(0, .ref (w_adr E.2.1 8 0)), (3, va_rf (w_p w1 14 p3 7))] ⟨rfl, ⟨rfl, trivial⟩⟩ rfl h
def zb_X9_assign_p122 (E : zE) (L : Nat) (Q : kx_Rs → wS → Prop) (x3 : Option Nat) (w : wS) : Prop := (if x3 = none then Q (.inl none) w else (∃ p1, x3 = some p1 ∧ w_l w E.2.1 14 p1 ∧ (if w_i w 14 p1 20 = 0 then zb_X9_assign_p142 E L Q x3 0 w else zb_X9_assign_p142 E L Q x3 1 w)))
theorem zt_X9_assign_p122 {E : zE} {L : Nat} {Q : kx_Rs → wS → Prop} {x3 : Option Nat} {w : wS} (hL : 23 ≤ L) (h : zb_X9_assign_p122 E L Q x3 w) : kzE E L kt_M20 122 [(0, .ref (w_adr E.2.1 8 0)), (3, va_rf (x3))] [] w Q := by
  unfold zb_X9_assign_p122 at h
  refine kz_aload_nv (M := kt_M20) (x := x3) kX9_assign_c7.2.2.2.2.2.2.1 rfl ?_
  refine kz_ifnull (M := kt_M20) (x := x3) kX9_assign_c7.2.2.2.2.2.2.2.1 (t := 153) rfl h (fun h => ?_) (fun h => ?_)
  · skip
    exact kz_ret (M := kt_M20) kX9_assign_c9.2.2.2.2.2.1 rfl h
  · skip
    refine kz_aload_n (M := kt_M20) kX9_assign_c8.1 rfl ?_
    refine kz_gfc (M := kt_M20) (x := 36) (c := 8) (o := 0) kX9_assign_c8.2.1 wf_X9_12 (.inl rfl) ?_
    refine kz_aload_nv (M := kt_M20) (x := x3) kX9_assign_c8.2.2.1 rfl ?_
    obtain ⟨p1, hxp1, hlp1, h⟩ := h
    refine kz_nz0 (x := x3) hxp1 ?_
    refine kz_gfi (M := kt_M20) (c := 14) (o := p1) kX9_assign_c8.2.2.2.1 wf_X9_281 (.inr (by exact hlp1)) ?_
    refine kz_if_eq (M := kt_M20) kX9_assign_c8.2.2.2.2.1 (t := 141) rfl h (fun h => ?_) (fun h => ?_)
    · skip
      refine kz_ic (M := kt_M20) 0 kX9_assign_c8.2.2.2.2.2.2.2.1 rfl ?_
      exact kz_weak [(0, .ref (w_adr E.2.1 8 0)), (3, va_rf (x3))] ⟨rfl, ⟨rfl, trivial⟩⟩ rfl (zt_X9_assign_p142 hL  h)
    · skip
      refine kz_ic (M := kt_M20) 1 kX9_assign_c8.2.2.2.2.2.1 rfl ?_
      refine kz_goto (M := kt_M20) kX9_assign_c8.2.2.2.2.2.2.1 (t := 142) rfl ?_
      exact kz_weak [(0, .ref (w_adr E.2.1 8 0)), (3, va_rf (x3))] ⟨rfl, ⟨rfl, trivial⟩⟩ rfl (zt_X9_assign_p142 hL  h)
def zb_X9_assign_p102 (E : zE) (L : Nat) (Q : kx_Rs → wS → Prop) (x1 : Option Nat) (x2 : Int32) (x3 : Option Nat) (w : wS) : Prop := (∃ p1, x3 = some p1 ∧ w_l w E.2.1 14 p1 ∧ zL_X9_assign_p75 E L Q x1 x2 (w_p w 14 p1 7) w)
theorem zt_X9_assign_p102 {E : zE} {L : Nat} {Q : kx_Rs → wS → Prop} {x1 : Option Nat} {x2 : Int32} {x3 : Option Nat} {w : wS} (hL : 23 ≤ L) (h : zb_X9_assign_p102 E L Q x1 x2 x3 w) : kzE E L kt_M20 102 [(0, .ref (w_adr E.2.1 8 0)), (1, va_rf (x1)), (2, .int x2), (3, va_rf (x3))] [] w Q := by
  unfold zb_X9_assign_p102 at h
  refine kz_aload_nv (M := kt_M20) (x := x3) kX9_assign_c6.2.2.2.1 rfl ?_
  obtain ⟨p1, hxp1, hlp1, h⟩ := h
  refine kz_nz0 (x := x3) hxp1 ?_
  refine kz_gfp (M := kt_M20) (c := 14) (o := p1) kX9_assign_c6.2.2.2.2.1 wf_X9_129 (.inr (by exact hlp1)) ?_
  refine kz_stv_n (M := kt_M20) (x := w_p w 14 p1 7) [(0, .ref (w_adr E.2.1 8 0)), (1, va_rf (x1)), (2, .int x2)] kX9_assign_c6.2.2.2.2.2.1 (Nat.le_of_ble_eq_true rfl) ⟨⟨rfl, rfl, .inl rfl⟩, ⟨⟨rfl, rfl, .inl rfl⟩, ⟨⟨rfl, rfl, .inr rfl⟩, trivial⟩⟩⟩ rfl ?_
  refine kz_goto (M := kt_M20) kX9_assign_c6.2.2.2.2.2.2.1 (t := 75) rfl ?_
  exact kz_weak [(0, .ref (w_adr E.2.1 8 0)), (1, va_rf (x1)), (2, .int x2), (3, va_rf (w_p w 14 p1 7))] ⟨rfl, ⟨rfl, ⟨rfl, ⟨rfl, trivial⟩⟩⟩⟩ rfl h
def zb_X9_assign_p75 (E : zE) (L : Nat) (Q : kx_Rs → wS → Prop) (x1 : Option Nat) (x2 : Int32) (x3 : Option Nat) (w : wS) : Prop := (if x3 = none then zw E (L - 22) kt_M25 [.ref (w_adr E.2.1 8 0), .int 30, .int x2] w (wk0 (fun w1 => wle w w1 → (∃ p3, x1 = some p3 ∧ w_l w1 E.2.1 14 p3 ∧ zL_X9_assign_p122 E L Q (w_p w1 14 p3 3) w1)) (fun e w => Q (.inr e) w)) else (∃ p4, x3 = some p4 ∧ w_l w E.2.1 14 p4 ∧ (if w_i w 14 p4 20 = 0 then zw E (L - 22) kt_M44 [.ref (w_adr E.2.1 8 0), va_rf (x3)] w (wk0 (fun w5 => wle w w5 → zb_X9_assign_p102 E L Q x1 x2 x3 w5) (fun e w => Q (.inr e) w)) else zw E (L - 21) kt_M42 [.ref (w_adr E.2.1 8 0), va_rf (w_p w 14 p4 16)] w (wk0 (fun w7 => wle w w7 → zb_X9_assign_p102 E L Q x1 x2 x3 w7) (fun e w => Q (.inr e) w)))))
theorem zt_X9_assign_p75 {E : zE} {L : Nat} {Q : kx_Rs → wS → Prop} {x1 : Option Nat} {x2 : Int32} {x3 : Option Nat} {w : wS} (hL : 23 ≤ L) (h : zb_X9_assign_p75 E L Q x1 x2 x3 w) : kzE E L kt_M20 75 [(0, .ref (w_adr E.2.1 8 0)), (1, va_rf (x1)), (2, .int x2), (3, va_rf (x3))] [] w Q := by
  unfold zb_X9_assign_p75 at h
  refine kz_aload_nv (M := kt_M20) (x := x3) kX9_assign_c4.2.2.2.2.2.2.1 rfl ?_
  refine kz_ifnull (M := kt_M20) (x := x3) kX9_assign_c4.2.2.2.2.2.2.2.1 (t := 110) rfl h (fun h => ?_) (fun h => ?_)
  · skip
    refine kz_aload_n (M := kt_M20) kX9_assign_c6.2.2.2.2.2.2.2.1 rfl ?_
    refine kz_bi (M := kt_M20) 30 kX9_assign_c7.1 rfl ?_
    refine kz_iload_n (M := kt_M20) kX9_assign_c7.2.1 rfl ?_
    refine kz_cv0 (M := kt_M20) (c := 8) (o := 0) (As := [.int 30, .int x2]) (rest := []) kX9_assign_c7.2.2.1 wl_X9_42 wMv_25 rfl (.inl rfl) rfl (Nat.le_trans (Nat.le_of_ble_eq_true rfl) hL) (Nat.le_of_ble_eq_true rfl) (Nat.le_of_ble_eq_true rfl) h (fun w1 hle h => ?_) (fun _ _ _ h => kzx_no rfl h)
    have h := h hle
    refine kz_aload_nv (M := kt_M20) (x := x1) kX9_assign_c7.2.2.2.1 rfl ?_
    obtain ⟨p3, hxp3, hlp3, h⟩ := h
    refine kz_nz0 (x := x1) hxp3 ?_
    refine kz_gfp (M := kt_M20) (c := 14) (o := p3) kX9_assign_c7.2.2.2.2.1 wf_X9_93 (.inr (by exact hlp3)) ?_
    refine kz_stv_n (M := kt_M20) (x := w_p w1 14 p3 3) [(0, .ref (w_adr E.2.1 8 0))] kX9_assign_c7.2.2.2.2.2.1 (Nat.le_of_ble_eq_true rfl) ⟨⟨rfl, rfl, .inl rfl⟩, trivial⟩ rfl ?_
    exact kz_weak [(0, .ref (w_adr E.2.1 8 0)), (3, va_rf (w_p w1 14 p3 3))] ⟨rfl, ⟨rfl, trivial⟩⟩ rfl h
  · skip
    refine kz_aload_nv (M := kt_M20) (x := x3) kX9_assign_c5.1 rfl ?_
    obtain ⟨p4, hxp4, hlp4, h⟩ := h
    refine kz_nz0 (x := x3) hxp4 ?_
    refine kz_gfi (M := kt_M20) (c := 14) (o := p4) kX9_assign_c5.2.1 wf_X9_281 (.inr (by exact hlp4)) ?_
    refine kz_if_eq (M := kt_M20) kX9_assign_c5.2.2.1 (t := 97) rfl h (fun h => ?_) (fun h => ?_)
    · skip
      refine kz_aload_n (M := kt_M20) kX9_assign_c6.1 rfl ?_
      refine kz_aload_nv (M := kt_M20) (x := x3) kX9_assign_c6.2.1 rfl ?_
      refine kz_cv0 (M := kt_M20) (c := 8) (o := 0) (As := [va_rf (x3)]) (rest := []) kX9_assign_c6.2.2.1 wl_X9_179 wMv_44 rfl (.inl rfl) rfl (Nat.le_trans (Nat.le_of_ble_eq_true rfl) hL) (by simp [lg_sl, w_cat, z_ci, z_cr, z_cl, z_cn, kt_M44]) (Nat.le_of_ble_eq_true rfl) h (fun w5 hle h => ?_) (fun _ _ _ h => kzx_no rfl h)
      have h := h hle
      have hlp4 := w_l_le hlp4 hle
      exact kz_weak [(0, .ref (w_adr E.2.1 8 0)), (1, va_rf (x1)), (2, .int x2), (3, va_rf (x3))] ⟨rfl, ⟨rfl, ⟨rfl, ⟨rfl, trivial⟩⟩⟩⟩ rfl (zt_X9_assign_p102 hL  h)
    · skip
      refine kz_aload_n (M := kt_M20) kX9_assign_c5.2.2.2.1 rfl ?_
      refine kz_aload_nv (M := kt_M20) (x := x3) kX9_assign_c5.2.2.2.2.1 rfl ?_
      refine kz_nz0 (x := x3) hxp4 ?_
      refine kz_gfp (M := kt_M20) (c := 14) (o := p4) kX9_assign_c5.2.2.2.2.2.1 wf_X9_115 (.inr (by exact hlp4)) ?_
      refine kz_cv0 (M := kt_M20) (c := 8) (o := 0) (As := [va_rf (w_p w 14 p4 16)]) (rest := []) kX9_assign_c5.2.2.2.2.2.2.1 wl_X9_175 wMv_42 rfl (.inl rfl) rfl (Nat.le_trans (Nat.le_of_ble_eq_true rfl) hL) (by simp [lg_sl, w_cat, z_ci, z_cr, z_cl, z_cn, kt_M42]) (Nat.le_of_ble_eq_true rfl) h (fun w7 hle h => ?_) (fun _ _ _ h => kzx_no rfl h)
      have h := h hle
      have hlp4 := w_l_le hlp4 hle
      refine kz_goto (M := kt_M20) kX9_assign_c5.2.2.2.2.2.2.2.1 (t := 102) rfl ?_
      exact kz_weak [(0, .ref (w_adr E.2.1 8 0)), (1, va_rf (x1)), (2, .int x2), (3, va_rf (x3))] ⟨rfl, ⟨rfl, ⟨rfl, ⟨rfl, trivial⟩⟩⟩⟩ rfl (zt_X9_assign_p102 hL  h)
def zb_X9_assign_p59 (E : zE) (L : Nat) (Q : kx_Rs → wS → Prop) (x1 : Option Nat) (x2 : Int32) (x3 : Option Nat) (w : wS) : Prop := (∃ p1, x3 = some p1 ∧ w_l w E.2.1 14 p1 ∧ zL_X9_assign_p12 E L Q x1 (x2 + 1) (w_p w 14 p1 7) w)
theorem zt_X9_assign_p59 {E : zE} {L : Nat} {Q : kx_Rs → wS → Prop} {x1 : Option Nat} {x2 : Int32} {x3 : Option Nat} {w : wS} (hL : 23 ≤ L) (h : zb_X9_assign_p59 E L Q x1 x2 x3 w) : kzE E L kt_M20 59 [(0, .ref (w_adr E.2.1 8 0)), (1, va_rf (x1)), (2, .int x2), (3, va_rf (x3))] [] w Q := by
  unfold zb_X9_assign_p59 at h
  refine kz_inc (M := kt_M20) [(0, .ref (w_adr E.2.1 8 0)), (1, va_rf (x1)), (3, va_rf (x3))] kX9_assign_c3.2.2.2.2.2.2.1 rfl (Nat.le_of_ble_eq_true rfl) ⟨⟨rfl, rfl, .inl rfl⟩, ⟨⟨rfl, rfl, .inr (w_cat (x1))⟩, ⟨⟨rfl, rfl, .inl rfl⟩, trivial⟩⟩⟩ rfl ?_
  refine kz_aload_nv (M := kt_M20) (x := x3) kX9_assign_c3.2.2.2.2.2.2.2.1 rfl ?_
  obtain ⟨p1, hxp1, hlp1, h⟩ := h
  refine kz_nz0 (x := x3) hxp1 ?_
  refine kz_gfp (M := kt_M20) (c := 14) (o := p1) kX9_assign_c4.1 wf_X9_129 (.inr (by exact hlp1)) ?_
  refine kz_stv_n (M := kt_M20) (x := w_p w 14 p1 7) [(0, .ref (w_adr E.2.1 8 0)), (1, va_rf (x1)), (2, .int (x2 + 1))] kX9_assign_c4.2.1 (Nat.le_of_ble_eq_true rfl) ⟨⟨rfl, rfl, .inl rfl⟩, ⟨⟨rfl, rfl, .inl rfl⟩, ⟨⟨rfl, rfl, .inr rfl⟩, trivial⟩⟩⟩ rfl ?_
  refine kz_goto (M := kt_M20) kX9_assign_c4.2.2.1 (t := 12) rfl ?_
  exact kz_weak [(0, .ref (w_adr E.2.1 8 0)), (1, va_rf (x1)), (2, .int (x2 + 1)), (3, va_rf (w_p w 14 p1 7))] ⟨rfl, ⟨rfl, ⟨rfl, ⟨rfl, trivial⟩⟩⟩⟩ rfl h
def zb_X9_assign_p36 (E : zE) (L : Nat) (Q : kx_Rs → wS → Prop) (x1 : Option Nat) (x2 : Int32) (x3 : Option Nat) (w : wS) : Prop := (∃ p1, x3 = some p1 ∧ w_l w E.2.1 14 p1 ∧ (if w_i w 14 p1 20 = 0 then zb_X9_assign_p59 E L Q x1 x2 x3 w else (∃ p2, x1 = some p2 ∧ w_l w E.2.1 14 p2 ∧ (∃ p3, w_p w 14 p2 4 = some p3 ∧ w_l w E.2.1 14 p3 ∧ (if (w_p w 14 p3 7) = none then zb_X9_assign_p59 E L Q x1 x2 x3 w else zw E (L - 21) kt_M24 [.ref (w_adr E.2.1 8 0), .int 21] w (wk0 (fun w4 => wle w w4 → zb_X9_assign_p59 E L Q x1 x2 x3 w4) (fun e w => Q (.inr e) w)))))))
theorem zt_X9_assign_p36 {E : zE} {L : Nat} {Q : kx_Rs → wS → Prop} {x1 : Option Nat} {x2 : Int32} {x3 : Option Nat} {w : wS} (hL : 23 ≤ L) (h : zb_X9_assign_p36 E L Q x1 x2 x3 w) : kzE E L kt_M20 36 [(0, .ref (w_adr E.2.1 8 0)), (1, va_rf (x1)), (2, .int x2), (3, va_rf (x3))] [] w Q := by
  unfold zb_X9_assign_p36 at h
  refine kz_aload_nv (M := kt_M20) (x := x3) kX9_assign_c2.2.2.2.2.1 rfl ?_
  obtain ⟨p1, hxp1, hlp1, h⟩ := h
  refine kz_nz0 (x := x3) hxp1 ?_
  refine kz_gfi (M := kt_M20) (c := 14) (o := p1) kX9_assign_c2.2.2.2.2.2.1 wf_X9_281 (.inr (by exact hlp1)) ?_
  refine kz_if_eq (M := kt_M20) kX9_assign_c2.2.2.2.2.2.2.1 (t := 59) rfl h (fun h => ?_) (fun h => ?_)
  · skip
    exact kz_weak [(0, .ref (w_adr E.2.1 8 0)), (1, va_rf (x1)), (2, .int x2), (3, va_rf (x3))] ⟨rfl, ⟨rfl, ⟨rfl, ⟨rfl, trivial⟩⟩⟩⟩ rfl (zt_X9_assign_p59 hL  h)
  · skip
    refine kz_aload_nv (M := kt_M20) (x := x1) kX9_assign_c2.2.2.2.2.2.2.2.1 rfl ?_
    obtain ⟨p2, hxp2, hlp2, h⟩ := h
    refine kz_nz0 (x := x1) hxp2 ?_
    refine kz_gfp (M := kt_M20) (c := 14) (o := p2) kX9_assign_c3.1 wf_X9_112 (.inr (by exact hlp2)) ?_
    obtain ⟨p3, hxp3, hlp3, h⟩ := h
    refine kz_nz0 (x := w_p w 14 p2 4) hxp3 ?_
    refine kz_gfp (M := kt_M20) (c := 14) (o := p3) kX9_assign_c3.2.1 wf_X9_129 (.inr (by exact hlp3)) ?_
    refine kz_ifnull (M := kt_M20) (x := w_p w 14 p3 7) kX9_assign_c3.2.2.1 (t := 59) rfl h (fun h => ?_) (fun h => ?_)
    · skip
      exact kz_weak [(0, .ref (w_adr E.2.1 8 0)), (1, va_rf (x1)), (2, .int x2), (3, va_rf (x3))] ⟨rfl, ⟨rfl, ⟨rfl, ⟨rfl, trivial⟩⟩⟩⟩ rfl (zt_X9_assign_p59 hL  h)
    · skip
      refine kz_aload_n (M := kt_M20) kX9_assign_c3.2.2.2.1 rfl ?_
      refine kz_bi (M := kt_M20) 21 kX9_assign_c3.2.2.2.2.1 rfl ?_
      refine kz_cv0 (M := kt_M20) (c := 8) (o := 0) (As := [.int 21]) (rest := []) kX9_assign_c3.2.2.2.2.2.1 wl_X9_137 wMv_24 rfl (.inl rfl) rfl (Nat.le_trans (Nat.le_of_ble_eq_true rfl) hL) (Nat.le_of_ble_eq_true rfl) (Nat.le_of_ble_eq_true rfl) h (fun w4 hle h => ?_) (fun _ _ _ h => kzx_no rfl h)
      have h := h hle
      have hlp1 := w_l_le hlp1 hle
      have hlp2 := w_l_le hlp2 hle
      have hlp3 := w_l_le hlp3 hle
      exact kz_weak [(0, .ref (w_adr E.2.1 8 0)), (1, va_rf (x1)), (2, .int x2), (3, va_rf (x3))] ⟨rfl, ⟨rfl, ⟨rfl, ⟨rfl, trivial⟩⟩⟩⟩ rfl (zt_X9_assign_p59 hL  h)
def zb_X9_assign_p12 (E : zE) (L : Nat) (Q : kx_Rs → wS → Prop) (x1 : Option Nat) (x2 : Int32) (x3 : Option Nat) (w : wS) : Prop := (if x3 = none then (∃ p1, x1 = some p1 ∧ w_l w E.2.1 14 p1 ∧ zL_X9_assign_p75 E L Q x1 x2 (w_p w 14 p1 3) w) else (∃ p2, x3 = some p2 ∧ w_l w E.2.1 14 p2 ∧ (if w_i w 14 p2 20 = 0 then zw E (L - 23) kt_M27 [.ref (w_adr E.2.1 8 0), va_rf (x3)] w (wk0 (fun w3 => wle w w3 → zb_X9_assign_p36 E L Q x1 x2 x3 w3) (fun e w => Q (.inr e) w)) else zw E (L - 23) kt_M19 [.ref (w_adr E.2.1 8 0), va_rf (x3)] w (wk0 (fun w5 => wle w w5 → zb_X9_assign_p36 E L Q x1 x2 x3 w5) (fun e w => Q (.inr e) w)))))
theorem zt_X9_assign_p12 {E : zE} {L : Nat} {Q : kx_Rs → wS → Prop} {x1 : Option Nat} {x2 : Int32} {x3 : Option Nat} {w : wS} (hL : 23 ≤ L) (h : zb_X9_assign_p12 E L Q x1 x2 x3 w) : kzE E L kt_M20 12 [(0, .ref (w_adr E.2.1 8 0)), (1, va_rf (x1)), (2, .int x2), (3, va_rf (x3))] [] w Q := by
  unfold zb_X9_assign_p12 at h
  refine kz_aload_nv (M := kt_M20) (x := x3) kX9_assign_c1.1 rfl ?_
  refine kz_ifnull (M := kt_M20) (x := x3) kX9_assign_c1.2.1 (t := 70) rfl h (fun h => ?_) (fun h => ?_)
  · skip
    refine kz_aload_nv (M := kt_M20) (x := x1) kX9_assign_c4.2.2.2.1 rfl ?_
    obtain ⟨p1, hxp1, hlp1, h⟩ := h
    refine kz_nz0 (x := x1) hxp1 ?_
    refine kz_gfp (M := kt_M20) (c := 14) (o := p1) kX9_assign_c4.2.2.2.2.1 wf_X9_93 (.inr (by exact hlp1)) ?_
    refine kz_stv_n (M := kt_M20) (x := w_p w 14 p1 3) [(0, .ref (w_adr E.2.1 8 0)), (1, va_rf (x1)), (2, .int x2)] kX9_assign_c4.2.2.2.2.2.1 (Nat.le_of_ble_eq_true rfl) ⟨⟨rfl, rfl, .inl rfl⟩, ⟨⟨rfl, rfl, .inl rfl⟩, ⟨⟨rfl, rfl, .inr rfl⟩, trivial⟩⟩⟩ rfl ?_
    exact kz_weak [(0, .ref (w_adr E.2.1 8 0)), (1, va_rf (x1)), (2, .int x2), (3, va_rf (w_p w 14 p1 3))] ⟨rfl, ⟨rfl, ⟨rfl, ⟨rfl, trivial⟩⟩⟩⟩ rfl h
  · skip
    refine kz_aload_nv (M := kt_M20) (x := x3) kX9_assign_c1.2.2.1 rfl ?_
    obtain ⟨p2, hxp2, hlp2, h⟩ := h
    refine kz_nz0 (x := x3) hxp2 ?_
    refine kz_gfi (M := kt_M20) (c := 14) (o := p2) kX9_assign_c1.2.2.2.1 wf_X9_281 (.inr (by exact hlp2)) ?_
    refine kz_if_eq (M := kt_M20) kX9_assign_c1.2.2.2.2.1 (t := 31) rfl h (fun h => ?_) (fun h => ?_)
    · skip
      refine kz_aload_n (M := kt_M20) kX9_assign_c2.2.1 rfl ?_
      refine kz_aload_nv (M := kt_M20) (x := x3) kX9_assign_c2.2.2.1 rfl ?_
      refine kz_cv0 (M := kt_M20) (c := 8) (o := 0) (As := [va_rf (x3)]) (rest := []) kX9_assign_c2.2.2.2.1 wl_X9_200 wMv_27 rfl (.inl rfl) rfl (Nat.le_trans (Nat.le_of_ble_eq_true rfl) hL) (by simp [lg_sl, w_cat, z_ci, z_cr, z_cl, z_cn, kt_M27]) (Nat.le_of_ble_eq_true rfl) h (fun w3 hle h => ?_) (fun _ _ _ h => kzx_no rfl h)
      have h := h hle
      have hlp2 := w_l_le hlp2 hle
      exact kz_weak [(0, .ref (w_adr E.2.1 8 0)), (1, va_rf (x1)), (2, .int x2), (3, va_rf (x3))] ⟨rfl, ⟨rfl, ⟨rfl, ⟨rfl, trivial⟩⟩⟩⟩ rfl (zt_X9_assign_p36 hL  h)
    · skip
      refine kz_aload_n (M := kt_M20) kX9_assign_c1.2.2.2.2.2.1 rfl ?_
      refine kz_aload_nv (M := kt_M20) (x := x3) kX9_assign_c1.2.2.2.2.2.2.1 rfl ?_
      refine kz_cv0 (M := kt_M20) (c := 8) (o := 0) (As := [va_rf (x3)]) (rest := []) kX9_assign_c1.2.2.2.2.2.2.2.1 wl_X9_198 wMv_19 rfl (.inl rfl) rfl (Nat.le_trans (Nat.le_of_ble_eq_true rfl) hL) (by simp [lg_sl, w_cat, z_ci, z_cr, z_cl, z_cn, kt_M19]) (Nat.le_of_ble_eq_true rfl) h (fun w5 hle h => ?_) (fun _ _ _ h => kzx_no rfl h)
      have h := h hle
      have hlp2 := w_l_le hlp2 hle
      refine kz_goto (M := kt_M20) kX9_assign_c2.1 (t := 36) rfl ?_
      exact kz_weak [(0, .ref (w_adr E.2.1 8 0)), (1, va_rf (x1)), (2, .int x2), (3, va_rf (x3))] ⟨rfl, ⟨rfl, ⟨rfl, ⟨rfl, trivial⟩⟩⟩⟩ rfl (zt_X9_assign_p36 hL  h)
def zb_X9_assign_p0 (E : zE) (L : Nat) (Q : kx_Rs → wS → Prop) (x1 : Option Nat) (w : wS) : Prop := zw E (L - 21) kt_M15 [.ref (w_adr E.2.1 8 0), va_rf (x1)] w (wk0 (fun w1 => wle w w1 → (∃ p3, x1 = some p3 ∧ w_l w1 E.2.1 14 p3 ∧ zL_X9_assign_p12 E L Q x1 0 (w_p w1 14 p3 4) w1)) (fun e w => Q (.inr e) w))
theorem zt_X9_assign_p0 {E : zE} {L : Nat} {Q : kx_Rs → wS → Prop} {x1 : Option Nat} {w : wS} (hL : 23 ≤ L) (h : zb_X9_assign_p0 E L Q x1 w) : kzE E L kt_M20 0 [(0, .ref (w_adr E.2.1 8 0)), (1, va_rf (x1))] [] w Q := by
  unfold zb_X9_assign_p0 at h
  refine kz_aload_n (M := kt_M20) kX9_assign_c0.1 rfl ?_
  refine kz_aload_nv (M := kt_M20) (x := x1) kX9_assign_c0.2.1 rfl ?_
  refine kz_cv0 (M := kt_M20) (c := 8) (o := 0) (As := [va_rf (x1)]) (rest := []) kX9_assign_c0.2.2.1 wl_X9_239 wMv_15 rfl (.inl rfl) rfl (Nat.le_trans (Nat.le_of_ble_eq_true rfl) hL) (by simp [lg_sl, w_cat, z_ci, z_cr, z_cl, z_cn, kt_M15]) (Nat.le_of_ble_eq_true rfl) h (fun w1 hle h => ?_) (fun _ _ _ h => kzx_no rfl h)
  have h := h hle
  refine kz_ic (M := kt_M20) 0 kX9_assign_c0.2.2.2.1 rfl ?_
  refine kz_sti_n (M := kt_M20) [(0, .ref (w_adr E.2.1 8 0)), (1, va_rf (x1))] kX9_assign_c0.2.2.2.2.1 (Nat.le_of_ble_eq_true rfl) ⟨⟨rfl, rfl, .inl rfl⟩, ⟨⟨rfl, rfl, .inr (w_cat (x1))⟩, trivial⟩⟩ rfl ?_
  refine kz_aload_nv (M := kt_M20) (x := x1) kX9_assign_c0.2.2.2.2.2.1 rfl ?_
  obtain ⟨p3, hxp3, hlp3, h⟩ := h
  refine kz_nz0 (x := x1) hxp3 ?_
  refine kz_gfp (M := kt_M20) (c := 14) (o := p3) kX9_assign_c0.2.2.2.2.2.2.1 wf_X9_112 (.inr (by exact hlp3)) ?_
  refine kz_stv_n (M := kt_M20) (x := w_p w1 14 p3 4) [(0, .ref (w_adr E.2.1 8 0)), (1, va_rf (x1)), (2, .int 0)] kX9_assign_c0.2.2.2.2.2.2.2.1 (Nat.le_of_ble_eq_true rfl) ⟨⟨rfl, rfl, .inl rfl⟩, ⟨⟨rfl, rfl, .inl rfl⟩, ⟨⟨rfl, rfl, .inr rfl⟩, trivial⟩⟩⟩ rfl ?_
  exact kz_weak [(0, .ref (w_adr E.2.1 8 0)), (1, va_rf (x1)), (2, .int 0), (3, va_rf (w_p w1 14 p3 4))] ⟨rfl, ⟨rfl, ⟨rfl, ⟨rfl, trivial⟩⟩⟩⟩ rfl h
def zb_X9_input_p66 (E : zE) (L : Nat) (Q : kx_Rs → wS → Prop) (y0 : Option Nat) (y1 : Option Nat) (w : wS) : Prop := zw E (L - 25) kt_M45 [.ref (w_adr E.2.1 8 0), va_rf (y1), va_rf (y0)] w (wk1 (fun v2 w1 => wle w w1 → zw E (L - 22) kt_M25 [.ref (w_adr E.2.1 8 0), .int 35, .int v2] w1 (wk0 (fun w3 => wle w1 w3 → Q (.inl none) w3) (fun e w => Q (.inr e) w))) (fun e w => Q (.inr e) w))
theorem zt_X9_input_p66 {E : zE} {L : Nat} {Q : kx_Rs → wS → Prop} {y0 : Option Nat} {y1 : Option Nat} {w : wS} (hL : 25 ≤ L) (h : zb_X9_input_p66 E L Q y0 y1 w) : kzE E L kt_M31 66 [(0, .ref (w_adr E.2.1 8 0))] [va_rf (y0), va_rf (y1), .ref (w_adr E.2.1 8 0)] w Q := by
  unfold zb_X9_input_p66 at h
  refine kz_cv1 (M := kt_M31) (c := 8) (o := 0) (As := [va_rf (y1), va_rf (y0)]) (rest := []) kX9_input_c3.2.2.2.2.2.1 wl_X9_291 wMv_45 rfl (.inl rfl) rfl (Nat.le_trans (Nat.le_of_ble_eq_true rfl) hL) (by simp [lg_sl, w_cat, z_ci, z_cr, z_cl, z_cn, kt_M45]) (Nat.le_of_ble_eq_true rfl) h (fun v2 w1 hle h => ?_) (fun _ _ _ h => kzx_no rfl h)
  have h := h hle
  refine kz_sti_n (M := kt_M31) [(0, .ref (w_adr E.2.1 8 0))] kX9_input_c3.2.2.2.2.2.2.1 (Nat.le_of_ble_eq_true rfl) ⟨⟨rfl, rfl, .inl rfl⟩, trivial⟩ rfl ?_
  refine kz_aload_n (M := kt_M31) kX9_input_c3.2.2.2.2.2.2.2.1 rfl ?_
  refine kz_bi (M := kt_M31) 35 kX9_input_c4.1 rfl ?_
  refine kz_iload_n (M := kt_M31) kX9_input_c4.2.1 rfl ?_
  refine kz_cv0 (M := kt_M31) (c := 8) (o := 0) (As := [.int 35, .int v2]) (rest := []) kX9_input_c4.2.2.1 wl_X9_42 wMv_25 rfl (.inl rfl) rfl (Nat.le_trans (Nat.le_of_ble_eq_true rfl) hL) (Nat.le_of_ble_eq_true rfl) (Nat.le_of_ble_eq_true rfl) h (fun w3 hle h => ?_) (fun _ _ _ h => kzx_no rfl h)
  have h := h hle
  exact kz_ret (M := kt_M31) kX9_input_c4.2.2.2.1 rfl h
def zb_X9_input_p0 (E : zE) (L : Nat) (Q : kx_Rs → wS → Prop) (x1 : Option Nat) (w : wS) : Prop := (∃ p1, x1 = some p1 ∧ w_l w E.2.1 14 p1 ∧ (∃ p2, w_p w 14 p1 3 = some p2 ∧ w_l w E.2.1 14 p2 ∧ (∃ p3, w_p w 14 p2 16 = some p3 ∧ w_l w E.2.1 15 p3 ∧ (if ¬ w_p w 15 p3 0 = some (E.1.1 58) then (if ¬ (w_p w 15 p3 15) = none then (∃ p4, w_p w 15 p3 15 = some p4 ∧ w_l w E.2.1 15 p4 ∧ zb_X9_input_p66 E L Q (w_p w 15 p4 17) (w_p w 14 p1 4) w) else zb_X9_input_p66 E L Q none (w_p w 14 p1 4) w) else zw E (L - 22) kt_M44 [.ref (w_adr E.2.1 8 0), va_rf (w_p w 14 p1 4)] w (wk0 (fun w5 => wle w w5 → zw E (L - 21) kt_M24 [.ref (w_adr E.2.1 8 0), .int 38] w5 (wk0 (fun w7 => wle w5 w7 → Q (.inl none) w7) (fun e w => Q (.inr e) w))) (fun e w => Q (.inr e) w))))))
theorem zt_X9_input_p0 {E : zE} {L : Nat} {Q : kx_Rs → wS → Prop} {x1 : Option Nat} {w : wS} (hL : 25 ≤ L) (h : zb_X9_input_p0 E L Q x1 w) : kzE E L kt_M31 0 [(0, .ref (w_adr E.2.1 8 0)), (1, va_rf (x1))] [] w Q := by
  unfold zb_X9_input_p0 at h
  refine kz_aload_nv (M := kt_M31) (x := x1) kX9_input_c0.1 rfl ?_
  obtain ⟨p1, hxp1, hlp1, h⟩ := h
  refine kz_nz0 (x := x1) hxp1 ?_
  refine kz_gfp (M := kt_M31) (c := 14) (o := p1) kX9_input_c0.2.1 wf_X9_93 (.inr (by exact hlp1)) ?_
  obtain ⟨p2, hxp2, hlp2, h⟩ := h
  refine kz_nz0 (x := w_p w 14 p1 3) hxp2 ?_
  refine kz_gfp (M := kt_M31) (c := 14) (o := p2) kX9_input_c0.2.2.1 wf_X9_115 (.inr (by exact hlp2)) ?_
  obtain ⟨p3, hxp3, hlp3, h⟩ := h
  refine kz_nz0 (x := w_p w 14 p2 16) hxp3 ?_
  refine kz_gfp (M := kt_M31) (c := 15) (o := p3) kX9_input_c0.2.2.2.1 wf_X9_245 (.inr (by exact hlp3)) ?_
  refine kz_getsE (M := kt_M31) (v := va_rf (some (E.1.1 58))) kX9_input_c0.2.2.2.2.1 zs_X9_282 ?_
  refine kz_acmp_ne (M := kt_M31) (x := w_p w 15 p3 0) (y := some (E.1.1 58)) kX9_input_c0.2.2.2.2.2.1 (t := 31) rfl h (fun h => ?_) (fun h => ?_)
  · skip
    refine kz_aload_n (M := kt_M31) kX9_input_c1.2.2.2.2.2.2.1 rfl ?_
    refine kz_aload_nv (M := kt_M31) (x := x1) kX9_input_c1.2.2.2.2.2.2.2.1 rfl ?_
    refine kz_nz0 (x := x1) hxp1 ?_
    refine kz_gfp (M := kt_M31) (c := 14) (o := p1) kX9_input_c2.1 wf_X9_112 (.inr (by exact hlp1)) ?_
    refine kz_aload_nv (M := kt_M31) (x := x1) kX9_input_c2.2.1 rfl ?_
    refine kz_nz0 (x := x1) hxp1 ?_
    refine kz_gfp (M := kt_M31) (c := 14) (o := p1) kX9_input_c2.2.2.1 wf_X9_93 (.inr (by exact hlp1)) ?_
    refine kz_nz0 (x := w_p w 14 p1 3) hxp2 ?_
    refine kz_gfp (M := kt_M31) (c := 14) (o := p2) kX9_input_c2.2.2.2.1 wf_X9_115 (.inr (by exact hlp2)) ?_
    refine kz_nz0 (x := w_p w 14 p2 16) hxp3 ?_
    refine kz_gfp (M := kt_M31) (c := 15) (o := p3) kX9_input_c2.2.2.2.2.1 wf_X9_285 (.inr (by exact hlp3)) ?_
    refine kz_ifnonnull (M := kt_M31) (x := w_p w 15 p3 15) kX9_input_c2.2.2.2.2.2.1 (t := 53) rfl h (fun h => ?_) (fun h => ?_)
    · skip
      refine kz_aload_nv (M := kt_M31) (x := x1) kX9_input_c3.1 rfl ?_
      refine kz_nz0 (x := x1) hxp1 ?_
      refine kz_gfp (M := kt_M31) (c := 14) (o := p1) kX9_input_c3.2.1 wf_X9_93 (.inr (by exact hlp1)) ?_
      refine kz_nz0 (x := w_p w 14 p1 3) hxp2 ?_
      refine kz_gfp (M := kt_M31) (c := 14) (o := p2) kX9_input_c3.2.2.1 wf_X9_115 (.inr (by exact hlp2)) ?_
      refine kz_nz0 (x := w_p w 14 p2 16) hxp3 ?_
      refine kz_gfp (M := kt_M31) (c := 15) (o := p3) kX9_input_c3.2.2.2.1 wf_X9_285 (.inr (by exact hlp3)) ?_
      obtain ⟨p4, hxp4, hlp4, h⟩ := h
      refine kz_nz0 (x := w_p w 15 p3 15) hxp4 ?_
      refine kz_gfp (M := kt_M31) (c := 15) (o := p4) kX9_input_c3.2.2.2.2.1 wf_X9_288 (.inr (by exact hlp4)) ?_
      exact kz_weak [(0, .ref (w_adr E.2.1 8 0))] ⟨rfl, trivial⟩ rfl (zt_X9_input_p66 hL  h)
    · skip
      refine kz_null (M := kt_M31) kX9_input_c2.2.2.2.2.2.2.1 ?_
      refine kz_goto (M := kt_M31) kX9_input_c2.2.2.2.2.2.2.2.1 (t := 66) rfl ?_
      exact kz_weak [(0, .ref (w_adr E.2.1 8 0))] ⟨rfl, trivial⟩ rfl (zt_X9_input_p66 hL  h)
  · skip
    refine kz_aload_n (M := kt_M31) kX9_input_c0.2.2.2.2.2.2.1 rfl ?_
    refine kz_aload_nv (M := kt_M31) (x := x1) kX9_input_c0.2.2.2.2.2.2.2.1 rfl ?_
    refine kz_nz0 (x := x1) hxp1 ?_
    refine kz_gfp (M := kt_M31) (c := 14) (o := p1) kX9_input_c1.1 wf_X9_112 (.inr (by exact hlp1)) ?_
    refine kz_cv0 (M := kt_M31) (c := 8) (o := 0) (As := [va_rf (w_p w 14 p1 4)]) (rest := []) kX9_input_c1.2.1 wl_X9_179 wMv_44 rfl (.inl rfl) rfl (Nat.le_trans (Nat.le_of_ble_eq_true rfl) hL) (by simp [lg_sl, w_cat, z_ci, z_cr, z_cl, z_cn, kt_M44]) (Nat.le_of_ble_eq_true rfl) h (fun w5 hle h => ?_) (fun _ _ _ h => kzx_no rfl h)
    have h := h hle
    have hlp1 := w_l_le hlp1 hle
    have hlp2 := w_l_le hlp2 hle
    have hlp3 := w_l_le hlp3 hle
    refine kz_aload_n (M := kt_M31) kX9_input_c1.2.2.1 rfl ?_
    refine kz_bi (M := kt_M31) 38 kX9_input_c1.2.2.2.1 rfl ?_
    refine kz_cv0 (M := kt_M31) (c := 8) (o := 0) (As := [.int 38]) (rest := []) kX9_input_c1.2.2.2.2.1 wl_X9_137 wMv_24 rfl (.inl rfl) rfl (Nat.le_trans (Nat.le_of_ble_eq_true rfl) hL) (Nat.le_of_ble_eq_true rfl) (Nat.le_of_ble_eq_true rfl) h (fun w7 hle h => ?_) (fun _ _ _ h => kzx_no rfl h)
    have h := h hle
    have hlp1 := w_l_le hlp1 hle
    have hlp2 := w_l_le hlp2 hle
    have hlp3 := w_l_le hlp3 hle
    exact kz_ret (M := kt_M31) kX9_input_c1.2.2.2.2.2.1 rfl h
def zL_X9_places_p8 (E : zE) (L : Nat) (Q : kx_Rs → wS → Prop) (x3 : Int32) (x4 : Option Nat) (x5 : Option Nat) (w : wS) : Prop := kzE E L kt_M45 8 [(0, .ref (w_adr E.2.1 8 0)), (3, .int x3), (4, va_rf (x4)), (5, va_rf (x5))] [] w Q
def zb_X9_places_p73 (E : zE) (L : Nat) (Q : kx_Rs → wS → Prop) (x3 : Int32) (x5 : Option Nat) (y0 : Option Nat) (w : wS) : Prop := (∃ p1, x5 = some p1 ∧ w_l w E.2.1 14 p1 ∧ zL_X9_places_p8 E L Q x3 y0 (w_p w 14 p1 7) w)
theorem zt_X9_places_p73 {E : zE} {L : Nat} {Q : kx_Rs → wS → Prop} {x3 : Int32} {x5 : Option Nat} {y0 : Option Nat} {w : wS} (hL : 22 ≤ L) (h : zb_X9_places_p73 E L Q x3 x5 y0 w) : kzE E L kt_M45 73 [(0, .ref (w_adr E.2.1 8 0)), (3, .int x3), (5, va_rf (x5))] [va_rf (y0)] w Q := by
  unfold zb_X9_places_p73 at h
  refine kz_stv (M := kt_M45) (x := y0) [(0, .ref (w_adr E.2.1 8 0)), (3, .int x3), (5, va_rf (x5))] kX9_places_c4.2.2.2.1 (Nat.le_of_ble_eq_true rfl) ⟨⟨rfl, rfl, .inl rfl⟩, ⟨⟨rfl, rfl, .inr rfl⟩, ⟨⟨rfl, rfl, .inl rfl⟩, trivial⟩⟩⟩ rfl ?_
  refine kz_aloadv (M := kt_M45) (x := x5) kX9_places_c4.2.2.2.2.1 rfl ?_
  obtain ⟨p1, hxp1, hlp1, h⟩ := h
  refine kz_nz0 (x := x5) hxp1 ?_
  refine kz_gfp (M := kt_M45) (c := 14) (o := p1) kX9_places_c4.2.2.2.2.2.1 wf_X9_129 (.inr (by exact hlp1)) ?_
  refine kz_stv (M := kt_M45) (x := w_p w 14 p1 7) [(0, .ref (w_adr E.2.1 8 0)), (3, .int x3), (4, va_rf (y0))] kX9_places_c4.2.2.2.2.2.2.1 (Nat.le_of_ble_eq_true rfl) ⟨⟨rfl, rfl, .inl rfl⟩, ⟨⟨rfl, rfl, .inl rfl⟩, ⟨⟨rfl, rfl, .inr (w_cat (y0))⟩, trivial⟩⟩⟩ rfl ?_
  refine kz_goto (M := kt_M45) kX9_places_c4.2.2.2.2.2.2.2.1 (t := 8) rfl ?_
  exact kz_weak [(0, .ref (w_adr E.2.1 8 0)), (3, .int x3), (4, va_rf (y0)), (5, va_rf (w_p w 14 p1 7))] ⟨rfl, ⟨rfl, ⟨rfl, ⟨rfl, trivial⟩⟩⟩⟩ rfl h
def zb_X9_places_p56 (E : zE) (L : Nat) (Q : kx_Rs → wS → Prop) (x3 : Int32) (x4 : Option Nat) (x5 : Option Nat) (w : wS) : Prop := (if ¬ x4 = none then (∃ p1, x4 = some p1 ∧ w_l w E.2.1 14 p1 ∧ zb_X9_places_p73 E L Q (x3 + 1) x5 (w_p w 14 p1 7) w) else zb_X9_places_p73 E L Q (x3 + 1) x5 none w)
theorem zt_X9_places_p56 {E : zE} {L : Nat} {Q : kx_Rs → wS → Prop} {x3 : Int32} {x4 : Option Nat} {x5 : Option Nat} {w : wS} (hL : 22 ≤ L) (h : zb_X9_places_p56 E L Q x3 x4 x5 w) : kzE E L kt_M45 56 [(0, .ref (w_adr E.2.1 8 0)), (3, .int x3), (4, va_rf (x4)), (5, va_rf (x5))] [] w Q := by
  unfold zb_X9_places_p56 at h
  refine kz_inc (M := kt_M45) [(0, .ref (w_adr E.2.1 8 0)), (4, va_rf (x4)), (5, va_rf (x5))] kX9_places_c3.2.2.2.2.1 rfl (Nat.le_of_ble_eq_true rfl) ⟨⟨rfl, rfl, .inl rfl⟩, ⟨⟨rfl, rfl, .inl rfl⟩, ⟨⟨rfl, rfl, .inl rfl⟩, trivial⟩⟩⟩ rfl ?_
  refine kz_aloadv (M := kt_M45) (x := x4) kX9_places_c3.2.2.2.2.2.1 rfl ?_
  refine kz_ifnonnull (M := kt_M45) (x := x4) kX9_places_c3.2.2.2.2.2.2.1 (t := 68) rfl h (fun h => ?_) (fun h => ?_)
  · skip
    refine kz_aloadv (M := kt_M45) (x := x4) kX9_places_c4.2.1 rfl ?_
    obtain ⟨p1, hxp1, hlp1, h⟩ := h
    refine kz_nz0 (x := x4) hxp1 ?_
    refine kz_gfp (M := kt_M45) (c := 14) (o := p1) kX9_places_c4.2.2.1 wf_X9_129 (.inr (by exact hlp1)) ?_
    exact kz_weak [(0, .ref (w_adr E.2.1 8 0)), (3, .int (x3 + 1)), (5, va_rf (x5))] ⟨rfl, ⟨rfl, ⟨rfl, trivial⟩⟩⟩ rfl (zt_X9_places_p73 hL  h)
  · skip
    refine kz_null (M := kt_M45) kX9_places_c3.2.2.2.2.2.2.2.1 ?_
    refine kz_goto (M := kt_M45) kX9_places_c4.1 (t := 73) rfl ?_
    exact kz_weak [(0, .ref (w_adr E.2.1 8 0)), (3, .int (x3 + 1)), (5, va_rf (x5))] ⟨rfl, ⟨rfl, ⟨rfl, trivial⟩⟩⟩ rfl (zt_X9_places_p73 hL  h)
def zb_X9_places_p8 (E : zE) (L : Nat) (Q : kx_Rs → wS → Prop) (x3 : Int32) (x4 : Option Nat) (x5 : Option Nat) (w : wS) : Prop := (if x5 = none then Q (.inl (some (.int x3))) w else (∃ p1, x5 = some p1 ∧ w_l w E.2.1 14 p1 ∧ (if w_i w 14 p1 20 = 0 then zw E (L - 22) kt_M44 [.ref (w_adr E.2.1 8 0), va_rf (x5)] w (wk0 (fun w2 => wle w w2 → zw E (L - 22) kt_M25 [.ref (w_adr E.2.1 8 0), .int 2, .int (-1)] w2 (wk0 (fun w4 => wle w2 w4 → zb_X9_places_p56 E L Q x3 x4 x5 w4) (fun e w => Q (.inr e) w))) (fun e w => Q (.inr e) w)) else zw E (L - 21) kt_M42 [.ref (w_adr E.2.1 8 0), va_rf (w_p w 14 p1 16)] w (wk0 (fun w6 => wle w w6 → (∃ p8, x4 = some p8 ∧ w_l w6 E.2.1 14 p8 ∧ zw E (L - 22) kt_M25 [.ref (w_adr E.2.1 8 0), .int 31, .int (w_i w6 14 p8 18)] w6 (wk0 (fun w9 => wle w6 w9 → zb_X9_places_p56 E L Q x3 x4 x5 w9) (fun e w => Q (.inr e) w)))) (fun e w => Q (.inr e) w)))))
theorem zt_X9_places_p8 {E : zE} {L : Nat} {Q : kx_Rs → wS → Prop} {x3 : Int32} {x4 : Option Nat} {x5 : Option Nat} {w : wS} (hL : 22 ≤ L) (h : zb_X9_places_p8 E L Q x3 x4 x5 w) : kzE E L kt_M45 8 [(0, .ref (w_adr E.2.1 8 0)), (3, .int x3), (4, va_rf (x4)), (5, va_rf (x5))] [] w Q := by
  unfold zb_X9_places_p8 at h
  refine kz_aloadv (M := kt_M45) (x := x5) kX9_places_c0.2.2.2.2.2.2.1 rfl ?_
  refine kz_ifnull (M := kt_M45) (x := x5) kX9_places_c0.2.2.2.2.2.2.2.1 (t := 85) rfl h (fun h => ?_) (fun h => ?_)
  · skip
    refine kz_iload_n (M := kt_M45) kX9_places_c5.1 rfl ?_
    exact kz_iret (M := kt_M45) kX9_places_c5.2.1 rfl rfl h
  · skip
    refine kz_aloadv (M := kt_M45) (x := x5) kX9_places_c1.1 rfl ?_
    obtain ⟨p1, hxp1, hlp1, h⟩ := h
    refine kz_nz0 (x := x5) hxp1 ?_
    refine kz_gfi (M := kt_M45) (c := 14) (o := p1) kX9_places_c1.2.1 wf_X9_281 (.inr (by exact hlp1)) ?_
    refine kz_if_eq (M := kt_M45) kX9_places_c1.2.2.1 (t := 44) rfl h (fun h => ?_) (fun h => ?_)
    · skip
      refine kz_aload_n (M := kt_M45) kX9_places_c2.2.2.2.2.2.1 rfl ?_
      refine kz_aloadv (M := kt_M45) (x := x5) kX9_places_c2.2.2.2.2.2.2.1 rfl ?_
      refine kz_cv0 (M := kt_M45) (c := 8) (o := 0) (As := [va_rf (x5)]) (rest := []) kX9_places_c2.2.2.2.2.2.2.2.1 wl_X9_179 wMv_44 rfl (.inl rfl) rfl (Nat.le_trans (Nat.le_of_ble_eq_true rfl) hL) (by simp [lg_sl, w_cat, z_ci, z_cr, z_cl, z_cn, kt_M44]) (Nat.le_of_ble_eq_true rfl) h (fun w2 hle h => ?_) (fun _ _ _ h => kzx_no rfl h)
      have h := h hle
      have hlp1 := w_l_le hlp1 hle
      refine kz_aload_n (M := kt_M45) kX9_places_c3.1 rfl ?_
      refine kz_ic (M := kt_M45) 2 kX9_places_c3.2.1 rfl ?_
      refine kz_ic (M := kt_M45) (-1) kX9_places_c3.2.2.1 rfl ?_
      refine kz_cv0 (M := kt_M45) (c := 8) (o := 0) (As := [.int 2, .int (-1)]) (rest := []) kX9_places_c3.2.2.2.1 wl_X9_42 wMv_25 rfl (.inl rfl) rfl (Nat.le_trans (Nat.le_of_ble_eq_true rfl) hL) (Nat.le_of_ble_eq_true rfl) (Nat.le_of_ble_eq_true rfl) h (fun w4 hle h => ?_) (fun _ _ _ h => kzx_no rfl h)
      have h := h hle
      have hlp1 := w_l_le hlp1 hle
      exact kz_weak [(0, .ref (w_adr E.2.1 8 0)), (3, .int x3), (4, va_rf (x4)), (5, va_rf (x5))] ⟨rfl, ⟨rfl, ⟨rfl, ⟨rfl, trivial⟩⟩⟩⟩ rfl (zt_X9_places_p56 hL  h)
    · skip
      refine kz_aload_n (M := kt_M45) kX9_places_c1.2.2.2.1 rfl ?_
      refine kz_aloadv (M := kt_M45) (x := x5) kX9_places_c1.2.2.2.2.1 rfl ?_
      refine kz_nz0 (x := x5) hxp1 ?_
      refine kz_gfp (M := kt_M45) (c := 14) (o := p1) kX9_places_c1.2.2.2.2.2.1 wf_X9_115 (.inr (by exact hlp1)) ?_
      refine kz_cv0 (M := kt_M45) (c := 8) (o := 0) (As := [va_rf (w_p w 14 p1 16)]) (rest := []) kX9_places_c1.2.2.2.2.2.2.1 wl_X9_175 wMv_42 rfl (.inl rfl) rfl (Nat.le_trans (Nat.le_of_ble_eq_true rfl) hL) (by simp [lg_sl, w_cat, z_ci, z_cr, z_cl, z_cn, kt_M42]) (Nat.le_of_ble_eq_true rfl) h (fun w6 hle h => ?_) (fun _ _ _ h => kzx_no rfl h)
      have h := h hle
      have hlp1 := w_l_le hlp1 hle
      refine kz_aload_n (M := kt_M45) kX9_places_c1.2.2.2.2.2.2.2.1 rfl ?_
      refine kz_bi (M := kt_M45) 31 kX9_places_c2.1 rfl ?_
      refine kz_aloadv (M := kt_M45) (x := x4) kX9_places_c2.2.1 rfl ?_
      obtain ⟨p8, hxp8, hlp8, h⟩ := h
      refine kz_nz0 (x := x4) hxp8 ?_
      refine kz_gfi (M := kt_M45) (c := 14) (o := p8) kX9_places_c2.2.2.1 wf_X9_295 (.inr (by exact hlp8)) ?_
      refine kz_cv0 (M := kt_M45) (c := 8) (o := 0) (As := [.int 31, .int (w_i w6 14 p8 18)]) (rest := []) kX9_places_c2.2.2.2.1 wl_X9_42 wMv_25 rfl (.inl rfl) rfl (Nat.le_trans (Nat.le_of_ble_eq_true rfl) hL) (Nat.le_of_ble_eq_true rfl) (Nat.le_of_ble_eq_true rfl) h (fun w9 hle h => ?_) (fun _ _ _ h => kzx_no rfl h)
      have h := h hle
      have hlp1 := w_l_le hlp1 hle
      have hlp8 := w_l_le hlp8 hle
      refine kz_goto (M := kt_M45) kX9_places_c2.2.2.2.2.1 (t := 56) rfl ?_
      exact kz_weak [(0, .ref (w_adr E.2.1 8 0)), (3, .int x3), (4, va_rf (x4)), (5, va_rf (x5))] ⟨rfl, ⟨rfl, ⟨rfl, ⟨rfl, trivial⟩⟩⟩⟩ rfl (zt_X9_places_p56 hL  h)
def zb_X9_places_p0 (E : zE) (L : Nat) (Q : kx_Rs → wS → Prop) (x1 : Option Nat) (x2 : Option Nat) (w : wS) : Prop := zL_X9_places_p8 E L Q 0 x2 x1 w
theorem zt_X9_places_p0 {E : zE} {L : Nat} {Q : kx_Rs → wS → Prop} {x1 : Option Nat} {x2 : Option Nat} {w : wS} (hL : 22 ≤ L) (h : zb_X9_places_p0 E L Q x1 x2 w) : kzE E L kt_M45 0 [(0, .ref (w_adr E.2.1 8 0)), (1, va_rf (x1)), (2, va_rf (x2))] [] w Q := by
  unfold zb_X9_places_p0 at h
  refine kz_ic (M := kt_M45) 0 kX9_places_c0.1 rfl ?_
  refine kz_sti_n (M := kt_M45) [(0, .ref (w_adr E.2.1 8 0)), (1, va_rf (x1)), (2, va_rf (x2))] kX9_places_c0.2.1 (Nat.le_of_ble_eq_true rfl) ⟨⟨rfl, rfl, .inl rfl⟩, ⟨⟨rfl, rfl, .inl rfl⟩, ⟨⟨rfl, rfl, .inr (w_cat (x2))⟩, trivial⟩⟩⟩ rfl ?_
  refine kz_aload_nv (M := kt_M45) (x := x2) kX9_places_c0.2.2.1 rfl ?_
  refine kz_stv (M := kt_M45) (x := x2) [(0, .ref (w_adr E.2.1 8 0)), (1, va_rf (x1)), (3, .int 0)] kX9_places_c0.2.2.2.1 (Nat.le_of_ble_eq_true rfl) ⟨⟨rfl, rfl, .inl rfl⟩, ⟨⟨rfl, rfl, .inl rfl⟩, ⟨⟨rfl, rfl, .inr rfl⟩, trivial⟩⟩⟩ rfl ?_
  refine kz_aload_nv (M := kt_M45) (x := x1) kX9_places_c0.2.2.2.2.1 rfl ?_
  refine kz_stv (M := kt_M45) (x := x1) [(0, .ref (w_adr E.2.1 8 0)), (3, .int 0), (4, va_rf (x2))] kX9_places_c0.2.2.2.2.2.1 (Nat.le_of_ble_eq_true rfl) ⟨⟨rfl, rfl, .inl rfl⟩, ⟨⟨rfl, rfl, .inl rfl⟩, ⟨⟨rfl, rfl, .inr (w_cat (x2))⟩, trivial⟩⟩⟩ rfl ?_
  exact kz_weak [(0, .ref (w_adr E.2.1 8 0)), (3, .int 0), (4, va_rf (x2)), (5, va_rf (x1))] ⟨rfl, ⟨rfl, ⟨rfl, ⟨rfl, trivial⟩⟩⟩⟩ rfl h
def zL_X9_variants_p62 (E : zE) (L : Nat) (Q : kx_Rs → wS → Prop) (x3 : Int32) (x4 : Int32) (x5 : Option Nat) (w : wS) : Prop := kzE E L kt_M52 62 [(0, .ref (w_adr E.2.1 8 0)), (3, .int x3), (4, .int x4), (5, va_rf (x5))] [] w Q
def zL_X9_variants_p34 (E : zE) (L : Nat) (Q : kx_Rs → wS → Prop) (x1 : Option Nat) (x2 : Int32) (x3 : Int32) (x4 : Int32) (w : wS) : Prop := kzE E L kt_M52 34 [(0, .ref (w_adr E.2.1 8 0)), (1, va_rf (x1)), (2, .int x2), (3, .int x3), (4, .int x4)] [] w Q
def zL_X9_variants_p4 (E : zE) (L : Nat) (Q : kx_Rs → wS → Prop) (x1 : Option Nat) (x2 : Int32) (x3 : Option Nat) (w : wS) : Prop := kzE E L kt_M52 4 [(0, .ref (w_adr E.2.1 8 0)), (1, va_rf (x1)), (2, .int x2), (3, va_rf (x3))] [] w Q
def zb_X9_variants_p62 (E : zE) (L : Nat) (Q : kx_Rs → wS → Prop) (x3 : Int32) (x4 : Int32) (x5 : Option Nat) (w : wS) : Prop := (if x5 = none then zw E (L - 23) kt_M34 [.ref (w_adr E.2.1 8 0), .int x4] w (wk0 (fun w1 => wle w w1 → Q (.inl none) w1) (fun e w => Q (.inr e) w)) else (∃ p3, x5 = some p3 ∧ w_l w E.2.1 14 p3 ∧ (∃ p4, w_p w 14 p3 16 = some p4 ∧ w_l w E.2.1 15 p4 ∧ zw E (L - 22) kt_M222 [.ref (w_adr E.2.1 9 0), .int x3, .int (w_i w 15 p4 8)] w (wk0 (fun w5 => wle w w5 → zw E (L - 20) kt_M29 [.ref (w_adr E.2.1 8 0)] w5 (wk1 (fun v8 w7 => wle w5 w7 → zw E (L - 22) kt_M222 [.ref (w_adr E.2.1 9 0), .int (x3 + 1), .int v8] w7 (wk0 (fun w9 => wle w7 w9 → (∃ p11, w_p w9 14 p3 16 = some p11 ∧ w_l w9 E.2.1 15 p11 ∧ zw E (L - 25) kt_M45 [.ref (w_adr E.2.1 8 0), va_rf (w_p w9 14 p3 4), va_rf (w_p w9 15 p11 17)] w9 (wk1 (fun v13 w12 => wle w9 w12 → zw E (L - 22) kt_M25 [.ref (w_adr E.2.1 8 0), .int 37, .int v13] w12 (wk0 (fun w14 => wle w12 w14 → zw E (L - 22) kt_M46 [.ref (w_adr E.2.1 8 0), va_rf (w_p w14 14 p3 6)] w14 (wk0 (fun w16 => wle w14 w16 → zw E (L - 22) kt_M25 [.ref (w_adr E.2.1 8 0), .int 15, .int x4] w16 (wk0 (fun w18 => wle w16 w18 → zw E (L - 20) kt_M29 [.ref (w_adr E.2.1 8 0)] w18 (wk1 (fun v21 w20 => wle w18 w20 → zL_X9_variants_p62 E L Q (x3 + 2) (v21 - 1) (w_p w20 14 p3 7) w20) (fun e w => Q (.inr e) w))) (fun e w => Q (.inr e) w))) (fun e w => Q (.inr e) w))) (fun e w => Q (.inr e) w))) (fun e w => Q (.inr e) w)))) (fun e w => Q (.inr e) w))) (fun e w => Q (.inr e) w))) (fun e w => Q (.inr e) w)))))
theorem zt_X9_variants_p62 {E : zE} {L : Nat} {Q : kx_Rs → wS → Prop} {x3 : Int32} {x4 : Int32} {x5 : Option Nat} {w : wS} (hL : 25 ≤ L) (h : zb_X9_variants_p62 E L Q x3 x4 x5 w) : kzE E L kt_M52 62 [(0, .ref (w_adr E.2.1 8 0)), (3, .int x3), (4, .int x4), (5, va_rf (x5))] [] w Q := by
  unfold zb_X9_variants_p62 at h
  refine kz_aloadv (M := kt_M52) (x := x5) kX9_variants_c4.2.2.2.1 rfl ?_
  refine kz_ifnull (M := kt_M52) (x := x5) kX9_variants_c4.2.2.2.2.1 (t := 158) rfl h (fun h => ?_) (fun h => ?_)
  · skip
    refine kz_aload_n (M := kt_M52) kX9_variants_c10.1 rfl ?_
    refine kz_iload (M := kt_M52) kX9_variants_c10.2.1 rfl ?_
    refine kz_cv0 (M := kt_M52) (c := 8) (o := 0) (As := [.int x4]) (rest := []) kX9_variants_c10.2.2.1 wl_X9_300 wMv_34 rfl (.inl rfl) rfl (Nat.le_trans (Nat.le_of_ble_eq_true rfl) hL) (Nat.le_of_ble_eq_true rfl) (Nat.le_of_ble_eq_true rfl) h (fun w1 hle h => ?_) (fun _ _ _ h => kzx_no rfl h)
    have h := h hle
    exact kz_ret (M := kt_M52) kX9_variants_c10.2.2.2.1 rfl h
  · skip
    refine kz_aload_n (M := kt_M52) kX9_variants_c4.2.2.2.2.2.1 rfl ?_
    refine kz_gfc (M := kt_M52) (x := 36) (c := 8) (o := 0) kX9_variants_c4.2.2.2.2.2.2.1 wf_X9_12 (.inl rfl) ?_
    refine kz_iload_n (M := kt_M52) kX9_variants_c4.2.2.2.2.2.2.2.1 rfl ?_
    refine kz_aloadv (M := kt_M52) (x := x5) kX9_variants_c5.1 rfl ?_
    obtain ⟨p3, hxp3, hlp3, h⟩ := h
    refine kz_nz0 (x := x5) hxp3 ?_
    refine kz_gfp (M := kt_M52) (c := 14) (o := p3) kX9_variants_c5.2.1 wf_X9_115 (.inr (by exact hlp3)) ?_
    obtain ⟨p4, hxp4, hlp4, h⟩ := h
    refine kz_nz0 (x := w_p w 14 p3 16) hxp4 ?_
    refine kz_gfi (M := kt_M52) (c := 15) (o := p4) kX9_variants_c5.2.2.1 wf_X9_299 (.inr (by exact hlp4)) ?_
    refine kz_cv0 (M := kt_M52) (c := 9) (o := 0) (As := [.int x3, .int (w_i w 15 p4 8)]) (rest := []) kX9_variants_c5.2.2.2.1 wl_X9_50 wMv_222 rfl (.inl rfl) rfl (Nat.le_trans (Nat.le_of_ble_eq_true rfl) hL) (Nat.le_of_ble_eq_true rfl) (Nat.le_of_ble_eq_true rfl) h (fun w5 hle h => ?_) (fun _ _ _ h => kzx_no rfl h)
    have h := h hle
    have hlp3 := w_l_le hlp3 hle
    have hlp4 := w_l_le hlp4 hle
    refine kz_aload_n (M := kt_M52) kX9_variants_c5.2.2.2.2.1 rfl ?_
    refine kz_gfc (M := kt_M52) (x := 36) (c := 8) (o := 0) kX9_variants_c5.2.2.2.2.2.1 wf_X9_12 (.inl rfl) ?_
    refine kz_iload_n (M := kt_M52) kX9_variants_c5.2.2.2.2.2.2.1 rfl ?_
    refine kz_ic (M := kt_M52) 1 kX9_variants_c5.2.2.2.2.2.2.2.1 rfl ?_
    refine kz_iadd (M := kt_M52) kX9_variants_c6.1 ?_
    refine kz_aload_n (M := kt_M52) kX9_variants_c6.2.1 rfl ?_
    refine kz_cv1 (M := kt_M52) (c := 8) (o := 0) (As := []) (rest := [.int (x3 + 1), .ref (w_adr E.2.1 9 0)]) kX9_variants_c6.2.2.1 wl_X9_46 wMv_29 rfl (.inl rfl) rfl (Nat.le_trans (Nat.le_of_ble_eq_true rfl) hL) (Nat.le_of_ble_eq_true rfl) (Nat.le_of_ble_eq_true rfl) h (fun v8 w7 hle h => ?_) (fun _ _ _ h => kzx_no rfl h)
    have h := h hle
    have hlp3 := w_l_le hlp3 hle
    have hlp4 := w_l_le hlp4 hle
    refine kz_cv0 (M := kt_M52) (c := 9) (o := 0) (As := [.int (x3 + 1), .int v8]) (rest := []) kX9_variants_c6.2.2.2.1 wl_X9_50 wMv_222 rfl (.inl rfl) rfl (Nat.le_trans (Nat.le_of_ble_eq_true rfl) hL) (Nat.le_of_ble_eq_true rfl) (Nat.le_of_ble_eq_true rfl) h (fun w9 hle h => ?_) (fun _ _ _ h => kzx_no rfl h)
    have h := h hle
    have hlp3 := w_l_le hlp3 hle
    have hlp4 := w_l_le hlp4 hle
    refine kz_inc (M := kt_M52) [(0, .ref (w_adr E.2.1 8 0)), (4, .int x4), (5, va_rf (x5))] kX9_variants_c6.2.2.2.2.1 rfl (Nat.le_of_ble_eq_true rfl) ⟨⟨rfl, rfl, .inl rfl⟩, ⟨⟨rfl, rfl, .inl rfl⟩, ⟨⟨rfl, rfl, .inl rfl⟩, trivial⟩⟩⟩ rfl ?_
    refine kz_aload_n (M := kt_M52) kX9_variants_c6.2.2.2.2.2.1 rfl ?_
    refine kz_bi (M := kt_M52) 37 kX9_variants_c6.2.2.2.2.2.2.1 rfl ?_
    refine kz_aload_n (M := kt_M52) kX9_variants_c6.2.2.2.2.2.2.2.1 rfl ?_
    refine kz_aloadv (M := kt_M52) (x := x5) kX9_variants_c7.1 rfl ?_
    refine kz_nz0 (x := x5) hxp3 ?_
    refine kz_gfp (M := kt_M52) (c := 14) (o := p3) kX9_variants_c7.2.1 wf_X9_112 (.inr (by exact hlp3)) ?_
    refine kz_aloadv (M := kt_M52) (x := x5) kX9_variants_c7.2.2.1 rfl ?_
    refine kz_nz0 (x := x5) hxp3 ?_
    refine kz_gfp (M := kt_M52) (c := 14) (o := p3) kX9_variants_c7.2.2.2.1 wf_X9_115 (.inr (by exact hlp3)) ?_
    obtain ⟨p11, hxp11, hlp11, h⟩ := h
    refine kz_nz0 (x := w_p w9 14 p3 16) hxp11 ?_
    refine kz_gfp (M := kt_M52) (c := 15) (o := p11) kX9_variants_c7.2.2.2.2.1 wf_X9_288 (.inr (by exact hlp11)) ?_
    refine kz_cv1 (M := kt_M52) (c := 8) (o := 0) (As := [va_rf (w_p w9 14 p3 4), va_rf (w_p w9 15 p11 17)]) (rest := [.int 37, .ref (w_adr E.2.1 8 0)]) kX9_variants_c7.2.2.2.2.2.1 wl_X9_291 wMv_45 rfl (.inl rfl) rfl (Nat.le_trans (Nat.le_of_ble_eq_true rfl) hL) (by simp [lg_sl, w_cat, z_ci, z_cr, z_cl, z_cn, kt_M45]) (Nat.le_of_ble_eq_true rfl) h (fun v13 w12 hle h => ?_) (fun _ _ _ h => kzx_no rfl h)
    have h := h hle
    have hlp11 := w_l_le hlp11 hle
    have hlp3 := w_l_le hlp3 hle
    have hlp4 := w_l_le hlp4 hle
    refine kz_cv0 (M := kt_M52) (c := 8) (o := 0) (As := [.int 37, .int v13]) (rest := []) kX9_variants_c7.2.2.2.2.2.2.1 wl_X9_42 wMv_25 rfl (.inl rfl) rfl (Nat.le_trans (Nat.le_of_ble_eq_true rfl) hL) (Nat.le_of_ble_eq_true rfl) (Nat.le_of_ble_eq_true rfl) h (fun w14 hle h => ?_) (fun _ _ _ h => kzx_no rfl h)
    have h := h hle
    have hlp11 := w_l_le hlp11 hle
    have hlp3 := w_l_le hlp3 hle
    have hlp4 := w_l_le hlp4 hle
    refine kz_aload_n (M := kt_M52) kX9_variants_c7.2.2.2.2.2.2.2.1 rfl ?_
    refine kz_aloadv (M := kt_M52) (x := x5) kX9_variants_c8.1 rfl ?_
    refine kz_nz0 (x := x5) hxp3 ?_
    refine kz_gfp (M := kt_M52) (c := 14) (o := p3) kX9_variants_c8.2.1 wf_X9_227 (.inr (by exact hlp3)) ?_
    refine kz_cv0 (M := kt_M52) (c := 8) (o := 0) (As := [va_rf (w_p w14 14 p3 6)]) (rest := []) kX9_variants_c8.2.2.1 wl_X9_218 wMv_46 rfl (.inl rfl) rfl (Nat.le_trans (Nat.le_of_ble_eq_true rfl) hL) (by simp [lg_sl, w_cat, z_ci, z_cr, z_cl, z_cn, kt_M46]) (Nat.le_of_ble_eq_true rfl) h (fun w16 hle h => ?_) (fun _ _ _ h => kzx_no rfl h)
    have h := h hle
    have hlp11 := w_l_le hlp11 hle
    have hlp3 := w_l_le hlp3 hle
    have hlp4 := w_l_le hlp4 hle
    refine kz_aload_n (M := kt_M52) kX9_variants_c8.2.2.2.1 rfl ?_
    refine kz_bi (M := kt_M52) 15 kX9_variants_c8.2.2.2.2.1 rfl ?_
    refine kz_iload (M := kt_M52) kX9_variants_c8.2.2.2.2.2.1 rfl ?_
    refine kz_cv0 (M := kt_M52) (c := 8) (o := 0) (As := [.int 15, .int x4]) (rest := []) kX9_variants_c8.2.2.2.2.2.2.1 wl_X9_42 wMv_25 rfl (.inl rfl) rfl (Nat.le_trans (Nat.le_of_ble_eq_true rfl) hL) (Nat.le_of_ble_eq_true rfl) (Nat.le_of_ble_eq_true rfl) h (fun w18 hle h => ?_) (fun _ _ _ h => kzx_no rfl h)
    have h := h hle
    have hlp11 := w_l_le hlp11 hle
    have hlp3 := w_l_le hlp3 hle
    have hlp4 := w_l_le hlp4 hle
    refine kz_aload_n (M := kt_M52) kX9_variants_c8.2.2.2.2.2.2.2.1 rfl ?_
    refine kz_cv1 (M := kt_M52) (c := 8) (o := 0) (As := []) (rest := []) kX9_variants_c9.1 wl_X9_46 wMv_29 rfl (.inl rfl) rfl (Nat.le_trans (Nat.le_of_ble_eq_true rfl) hL) (Nat.le_of_ble_eq_true rfl) (Nat.le_of_ble_eq_true rfl) h (fun v21 w20 hle h => ?_) (fun _ _ _ h => kzx_no rfl h)
    have h := h hle
    have hlp11 := w_l_le hlp11 hle
    have hlp3 := w_l_le hlp3 hle
    have hlp4 := w_l_le hlp4 hle
    refine kz_ic (M := kt_M52) 1 kX9_variants_c9.2.1 rfl ?_
    refine kz_isub (M := kt_M52) kX9_variants_c9.2.2.1 ?_
    refine kz_sti (M := kt_M52) [(0, .ref (w_adr E.2.1 8 0)), (3, .int (x3 + 2)), (5, va_rf (x5))] kX9_variants_c9.2.2.2.1 (Nat.le_of_ble_eq_true rfl) ⟨⟨rfl, rfl, .inl rfl⟩, ⟨⟨rfl, rfl, .inr rfl⟩, ⟨⟨rfl, rfl, .inl rfl⟩, trivial⟩⟩⟩ rfl ?_
    refine kz_aloadv (M := kt_M52) (x := x5) kX9_variants_c9.2.2.2.2.1 rfl ?_
    refine kz_nz0 (x := x5) hxp3 ?_
    refine kz_gfp (M := kt_M52) (c := 14) (o := p3) kX9_variants_c9.2.2.2.2.2.1 wf_X9_129 (.inr (by exact hlp3)) ?_
    refine kz_stv (M := kt_M52) (x := w_p w20 14 p3 7) [(0, .ref (w_adr E.2.1 8 0)), (3, .int (x3 + 2)), (4, .int (v21 - 1))] kX9_variants_c9.2.2.2.2.2.2.1 (Nat.le_of_ble_eq_true rfl) ⟨⟨rfl, rfl, .inl rfl⟩, ⟨⟨rfl, rfl, .inl rfl⟩, ⟨⟨rfl, rfl, .inr rfl⟩, trivial⟩⟩⟩ rfl ?_
    refine kz_goto (M := kt_M52) kX9_variants_c9.2.2.2.2.2.2.2.1 (t := 62) rfl ?_
    exact kz_weak [(0, .ref (w_adr E.2.1 8 0)), (3, .int (x3 + 2)), (4, .int (v21 - 1)), (5, va_rf (w_p w20 14 p3 7))] ⟨rfl, ⟨rfl, ⟨rfl, ⟨rfl, trivial⟩⟩⟩⟩ rfl h
def zb_X9_variants_p34 (E : zE) (L : Nat) (Q : kx_Rs → wS → Prop) (x1 : Option Nat) (x2 : Int32) (x3 : Int32) (x4 : Int32) (w : wS) : Prop := (if (2 * x2) ≤ x4 then zL_X9_variants_p62 E L Q x3 (-1) x1 w else zw E (L - 22) kt_M219 [.ref (w_adr E.2.1 9 0), .int 0] w (wk0 (fun w1 => wle w w1 → zL_X9_variants_p34 E L Q x1 x2 x3 (x4 + 1) w1) (fun e w => Q (.inr e) w)))
theorem zt_X9_variants_p34 {E : zE} {L : Nat} {Q : kx_Rs → wS → Prop} {x1 : Option Nat} {x2 : Int32} {x3 : Int32} {x4 : Int32} {w : wS} (hL : 25 ≤ L) (h : zb_X9_variants_p34 E L Q x1 x2 x3 x4 w) : kzE E L kt_M52 34 [(0, .ref (w_adr E.2.1 8 0)), (1, va_rf (x1)), (2, .int x2), (3, .int x3), (4, .int x4)] [] w Q := by
  unfold zb_X9_variants_p34 at h
  refine kz_iload (M := kt_M52) kX9_variants_c2.2.2.2.2.1 rfl ?_
  refine kz_ic (M := kt_M52) 2 kX9_variants_c2.2.2.2.2.2.1 rfl ?_
  refine kz_iload_n (M := kt_M52) kX9_variants_c2.2.2.2.2.2.2.1 rfl ?_
  refine kz_imul (M := kt_M52) kX9_variants_c2.2.2.2.2.2.2.2.1 ?_
  refine kz_icmp_ge (M := kt_M52) kX9_variants_c3.1 (t := 56) rfl h (fun h => ?_) (fun h => ?_)
  · skip
    refine kz_ic (M := kt_M52) (-1) kX9_variants_c3.2.2.2.2.2.2.2.1 rfl ?_
    refine kz_sti (M := kt_M52) [(0, .ref (w_adr E.2.1 8 0)), (1, va_rf (x1)), (3, .int x3)] kX9_variants_c4.1 (Nat.le_of_ble_eq_true rfl) ⟨⟨rfl, rfl, .inl rfl⟩, ⟨⟨rfl, rfl, .inl rfl⟩, ⟨⟨rfl, rfl, .inr rfl⟩, trivial⟩⟩⟩ rfl ?_
    refine kz_aload_nv (M := kt_M52) (x := x1) kX9_variants_c4.2.1 rfl ?_
    refine kz_stv (M := kt_M52) (x := x1) [(0, .ref (w_adr E.2.1 8 0)), (3, .int x3), (4, .int (-1))] kX9_variants_c4.2.2.1 (Nat.le_of_ble_eq_true rfl) ⟨⟨rfl, rfl, .inl rfl⟩, ⟨⟨rfl, rfl, .inl rfl⟩, ⟨⟨rfl, rfl, .inr rfl⟩, trivial⟩⟩⟩ rfl ?_
    exact kz_weak [(0, .ref (w_adr E.2.1 8 0)), (3, .int x3), (4, .int (-1)), (5, va_rf (x1))] ⟨rfl, ⟨rfl, ⟨rfl, ⟨rfl, trivial⟩⟩⟩⟩ rfl h
  · skip
    refine kz_aload_n (M := kt_M52) kX9_variants_c3.2.1 rfl ?_
    refine kz_gfc (M := kt_M52) (x := 36) (c := 8) (o := 0) kX9_variants_c3.2.2.1 wf_X9_12 (.inl rfl) ?_
    refine kz_ic (M := kt_M52) 0 kX9_variants_c3.2.2.2.1 rfl ?_
    refine kz_cv0 (M := kt_M52) (c := 9) (o := 0) (As := [.int 0]) (rest := []) kX9_variants_c3.2.2.2.2.1 wl_X9_38 wMv_219 rfl (.inl rfl) rfl (Nat.le_trans (Nat.le_of_ble_eq_true rfl) hL) (Nat.le_of_ble_eq_true rfl) (Nat.le_of_ble_eq_true rfl) h (fun w1 hle h => ?_) (fun _ _ _ h => kzx_no rfl h)
    have h := h hle
    refine kz_inc (M := kt_M52) [(0, .ref (w_adr E.2.1 8 0)), (1, va_rf (x1)), (2, .int x2), (3, .int x3)] kX9_variants_c3.2.2.2.2.2.1 rfl (Nat.le_of_ble_eq_true rfl) ⟨⟨rfl, rfl, .inl rfl⟩, ⟨⟨rfl, rfl, .inl rfl⟩, ⟨⟨rfl, rfl, .inl rfl⟩, ⟨⟨rfl, rfl, .inr rfl⟩, trivial⟩⟩⟩⟩ rfl ?_
    refine kz_goto (M := kt_M52) kX9_variants_c3.2.2.2.2.2.2.1 (t := 34) rfl ?_
    exact kz_weak [(0, .ref (w_adr E.2.1 8 0)), (1, va_rf (x1)), (2, .int x2), (3, .int x3), (4, .int (x4 + 1))] ⟨rfl, ⟨rfl, ⟨rfl, ⟨rfl, ⟨rfl, trivial⟩⟩⟩⟩⟩ rfl h
def zb_X9_variants_p4 (E : zE) (L : Nat) (Q : kx_Rs → wS → Prop) (x1 : Option Nat) (x2 : Int32) (x3 : Option Nat) (w : wS) : Prop := (if x3 = none then zw E (L - 22) kt_M25 [.ref (w_adr E.2.1 8 0), .int 36, .int x2] w (wk0 (fun w1 => wle w w1 → zw E (L - 20) kt_M29 [.ref (w_adr E.2.1 8 0)] w1 (wk1 (fun v4 w3 => wle w1 w3 → zL_X9_variants_p34 E L Q x1 x2 v4 0 w3) (fun e w => Q (.inr e) w))) (fun e w => Q (.inr e) w)) else (∃ p5, x3 = some p5 ∧ w_l w E.2.1 14 p5 ∧ zL_X9_variants_p4 E L Q x1 (x2 + 1) (w_p w 14 p5 7) w))
theorem zt_X9_variants_p4 {E : zE} {L : Nat} {Q : kx_Rs → wS → Prop} {x1 : Option Nat} {x2 : Int32} {x3 : Option Nat} {w : wS} (hL : 25 ≤ L) (h : zb_X9_variants_p4 E L Q x1 x2 x3 w) : kzE E L kt_M52 4 [(0, .ref (w_adr E.2.1 8 0)), (1, va_rf (x1)), (2, .int x2), (3, va_rf (x3))] [] w Q := by
  unfold zb_X9_variants_p4 at h
  refine kz_aload_nv (M := kt_M52) (x := x3) kX9_variants_c0.2.2.2.2.1 rfl ?_
  refine kz_ifnull (M := kt_M52) (x := x3) kX9_variants_c0.2.2.2.2.2.1 (t := 19) rfl h (fun h => ?_) (fun h => ?_)
  · skip
    refine kz_aload_n (M := kt_M52) kX9_variants_c1.2.2.2.1 rfl ?_
    refine kz_bi (M := kt_M52) 36 kX9_variants_c1.2.2.2.2.1 rfl ?_
    refine kz_iload_n (M := kt_M52) kX9_variants_c1.2.2.2.2.2.1 rfl ?_
    refine kz_cv0 (M := kt_M52) (c := 8) (o := 0) (As := [.int 36, .int x2]) (rest := []) kX9_variants_c1.2.2.2.2.2.2.1 wl_X9_42 wMv_25 rfl (.inl rfl) rfl (Nat.le_trans (Nat.le_of_ble_eq_true rfl) hL) (Nat.le_of_ble_eq_true rfl) (Nat.le_of_ble_eq_true rfl) h (fun w1 hle h => ?_) (fun _ _ _ h => kzx_no rfl h)
    have h := h hle
    refine kz_aload_n (M := kt_M52) kX9_variants_c1.2.2.2.2.2.2.2.1 rfl ?_
    refine kz_cv1 (M := kt_M52) (c := 8) (o := 0) (As := []) (rest := []) kX9_variants_c2.1 wl_X9_46 wMv_29 rfl (.inl rfl) rfl (Nat.le_trans (Nat.le_of_ble_eq_true rfl) hL) (Nat.le_of_ble_eq_true rfl) (Nat.le_of_ble_eq_true rfl) h (fun v4 w3 hle h => ?_) (fun _ _ _ h => kzx_no rfl h)
    have h := h hle
    refine kz_sti_n (M := kt_M52) [(0, .ref (w_adr E.2.1 8 0)), (1, va_rf (x1)), (2, .int x2)] kX9_variants_c2.2.1 (Nat.le_of_ble_eq_true rfl) ⟨⟨rfl, rfl, .inl rfl⟩, ⟨⟨rfl, rfl, .inl rfl⟩, ⟨⟨rfl, rfl, .inr rfl⟩, trivial⟩⟩⟩ rfl ?_
    refine kz_ic (M := kt_M52) 0 kX9_variants_c2.2.2.1 rfl ?_
    refine kz_sti (M := kt_M52) [(0, .ref (w_adr E.2.1 8 0)), (1, va_rf (x1)), (2, .int x2), (3, .int v4)] kX9_variants_c2.2.2.2.1 (Nat.le_of_ble_eq_true rfl) ⟨⟨rfl, rfl, .inl rfl⟩, ⟨⟨rfl, rfl, .inl rfl⟩, ⟨⟨rfl, rfl, .inl rfl⟩, ⟨⟨rfl, rfl, .inr rfl⟩, trivial⟩⟩⟩⟩ rfl ?_
    exact kz_weak [(0, .ref (w_adr E.2.1 8 0)), (1, va_rf (x1)), (2, .int x2), (3, .int v4), (4, .int 0)] ⟨rfl, ⟨rfl, ⟨rfl, ⟨rfl, ⟨rfl, trivial⟩⟩⟩⟩⟩ rfl h
  · skip
    refine kz_inc (M := kt_M52) [(0, .ref (w_adr E.2.1 8 0)), (1, va_rf (x1)), (3, va_rf (x3))] kX9_variants_c0.2.2.2.2.2.2.1 rfl (Nat.le_of_ble_eq_true rfl) ⟨⟨rfl, rfl, .inl rfl⟩, ⟨⟨rfl, rfl, .inr (w_cat (x1))⟩, ⟨⟨rfl, rfl, .inl rfl⟩, trivial⟩⟩⟩ rfl ?_
    refine kz_aload_nv (M := kt_M52) (x := x3) kX9_variants_c0.2.2.2.2.2.2.2.1 rfl ?_
    obtain ⟨p5, hxp5, hlp5, h⟩ := h
    refine kz_nz0 (x := x3) hxp5 ?_
    refine kz_gfp (M := kt_M52) (c := 14) (o := p5) kX9_variants_c1.1 wf_X9_129 (.inr (by exact hlp5)) ?_
    refine kz_stv_n (M := kt_M52) (x := w_p w 14 p5 7) [(0, .ref (w_adr E.2.1 8 0)), (1, va_rf (x1)), (2, .int (x2 + 1))] kX9_variants_c1.2.1 (Nat.le_of_ble_eq_true rfl) ⟨⟨rfl, rfl, .inl rfl⟩, ⟨⟨rfl, rfl, .inl rfl⟩, ⟨⟨rfl, rfl, .inr rfl⟩, trivial⟩⟩⟩ rfl ?_
    refine kz_goto (M := kt_M52) kX9_variants_c1.2.2.1 (t := 4) rfl ?_
    exact kz_weak [(0, .ref (w_adr E.2.1 8 0)), (1, va_rf (x1)), (2, .int (x2 + 1)), (3, va_rf (w_p w 14 p5 7))] ⟨rfl, ⟨rfl, ⟨rfl, ⟨rfl, trivial⟩⟩⟩⟩ rfl h
def zb_X9_variants_p0 (E : zE) (L : Nat) (Q : kx_Rs → wS → Prop) (x1 : Option Nat) (w : wS) : Prop := zL_X9_variants_p4 E L Q x1 0 x1 w
theorem zt_X9_variants_p0 {E : zE} {L : Nat} {Q : kx_Rs → wS → Prop} {x1 : Option Nat} {w : wS} (hL : 25 ≤ L) (h : zb_X9_variants_p0 E L Q x1 w) : kzE E L kt_M52 0 [(0, .ref (w_adr E.2.1 8 0)), (1, va_rf (x1))] [] w Q := by
  unfold zb_X9_variants_p0 at h
  refine kz_ic (M := kt_M52) 0 kX9_variants_c0.1 rfl ?_
  refine kz_sti_n (M := kt_M52) [(0, .ref (w_adr E.2.1 8 0)), (1, va_rf (x1))] kX9_variants_c0.2.1 (Nat.le_of_ble_eq_true rfl) ⟨⟨rfl, rfl, .inl rfl⟩, ⟨⟨rfl, rfl, .inr (w_cat (x1))⟩, trivial⟩⟩ rfl ?_
  refine kz_aload_nv (M := kt_M52) (x := x1) kX9_variants_c0.2.2.1 rfl ?_
  refine kz_stv_n (M := kt_M52) (x := x1) [(0, .ref (w_adr E.2.1 8 0)), (1, va_rf (x1)), (2, .int 0)] kX9_variants_c0.2.2.2.1 (Nat.le_of_ble_eq_true rfl) ⟨⟨rfl, rfl, .inl rfl⟩, ⟨⟨rfl, rfl, .inl rfl⟩, ⟨⟨rfl, rfl, .inr rfl⟩, trivial⟩⟩⟩ rfl ?_
  exact kz_weak [(0, .ref (w_adr E.2.1 8 0)), (1, va_rf (x1)), (2, .int 0), (3, va_rf (x1))] ⟨rfl, ⟨rfl, ⟨rfl, ⟨rfl, trivial⟩⟩⟩⟩ rfl h
def zL_X9_landAll_p2 (E : zE) (L : Nat) (Q : kx_Rs → wS → Prop) (x2 : Int32) (w : wS) : Prop := kzE E L kt_M34 2 [(0, .ref (w_adr E.2.1 8 0)), (2, .int x2)] [] w Q
def zb_X9_landAll_p2 (E : zE) (L : Nat) (Q : kx_Rs → wS → Prop) (x2 : Int32) (w : wS) : Prop := (if x2 = (-1) then Q (.inl none) w else zw E (L - 21) kt_M221 [.ref (w_adr E.2.1 9 0), .int x2] w (wk1 (fun v2 w1 => wle w w1 → zw E (L - 20) kt_M29 [.ref (w_adr E.2.1 8 0)] w1 (wk1 (fun v4 w3 => wle w1 w3 → zw E (L - 22) kt_M222 [.ref (w_adr E.2.1 9 0), .int x2, .int v4] w3 (wk0 (fun w5 => wle w3 w5 → zL_X9_landAll_p2 E L Q v2 w5) (fun e w => Q (.inr e) w))) (fun e w => Q (.inr e) w))) (fun e w => Q (.inr e) w)))
theorem zt_X9_landAll_p2 {E : zE} {L : Nat} {Q : kx_Rs → wS → Prop} {x2 : Int32} {w : wS} (hL : 22 ≤ L) (h : zb_X9_landAll_p2 E L Q x2 w) : kzE E L kt_M34 2 [(0, .ref (w_adr E.2.1 8 0)), (2, .int x2)] [] w Q := by
  unfold zb_X9_landAll_p2 at h
  refine kz_iload_n (M := kt_M34) kX9_landAll_c0.2.2.1 rfl ?_
  refine kz_ic (M := kt_M34) (-1) kX9_landAll_c0.2.2.2.1 rfl ?_
  refine kz_icmp_eq (M := kt_M34) kX9_landAll_c0.2.2.2.2.1 (t := 33) rfl h (fun h => ?_) (fun h => ?_)
  · skip
    exact kz_ret (M := kt_M34) kX9_landAll_c2.2.2.2.1 rfl h
  · skip
    refine kz_aload_n (M := kt_M34) kX9_landAll_c0.2.2.2.2.2.1 rfl ?_
    refine kz_gfc (M := kt_M34) (x := 36) (c := 8) (o := 0) kX9_landAll_c0.2.2.2.2.2.2.1 wf_X9_12 (.inl rfl) ?_
    refine kz_iload_n (M := kt_M34) kX9_landAll_c0.2.2.2.2.2.2.2.1 rfl ?_
    refine kz_cv1 (M := kt_M34) (c := 9) (o := 0) (As := [.int x2]) (rest := []) kX9_landAll_c1.1 wl_X9_303 wMv_221 rfl (.inl rfl) rfl (Nat.le_trans (Nat.le_of_ble_eq_true rfl) hL) (Nat.le_of_ble_eq_true rfl) (Nat.le_of_ble_eq_true rfl) h (fun v2 w1 hle h => ?_) (fun _ _ _ h => kzx_no rfl h)
    have h := h hle
    refine kz_sti_n (M := kt_M34) [(0, .ref (w_adr E.2.1 8 0)), (2, .int x2)] kX9_landAll_c1.2.1 (Nat.le_of_ble_eq_true rfl) ⟨⟨rfl, rfl, .inl rfl⟩, ⟨⟨rfl, rfl, .inr rfl⟩, trivial⟩⟩ rfl ?_
    refine kz_aload_n (M := kt_M34) kX9_landAll_c1.2.2.1 rfl ?_
    refine kz_gfc (M := kt_M34) (x := 36) (c := 8) (o := 0) kX9_landAll_c1.2.2.2.1 wf_X9_12 (.inl rfl) ?_
    refine kz_iload_n (M := kt_M34) kX9_landAll_c1.2.2.2.2.1 rfl ?_
    refine kz_aload_n (M := kt_M34) kX9_landAll_c1.2.2.2.2.2.1 rfl ?_
    refine kz_cv1 (M := kt_M34) (c := 8) (o := 0) (As := []) (rest := [.int x2, .ref (w_adr E.2.1 9 0)]) kX9_landAll_c1.2.2.2.2.2.2.1 wl_X9_46 wMv_29 rfl (.inl rfl) rfl (Nat.le_trans (Nat.le_of_ble_eq_true rfl) hL) (Nat.le_of_ble_eq_true rfl) (Nat.le_of_ble_eq_true rfl) h (fun v4 w3 hle h => ?_) (fun _ _ _ h => kzx_no rfl h)
    have h := h hle
    refine kz_cv0 (M := kt_M34) (c := 9) (o := 0) (As := [.int x2, .int v4]) (rest := []) kX9_landAll_c1.2.2.2.2.2.2.2.1 wl_X9_50 wMv_222 rfl (.inl rfl) rfl (Nat.le_trans (Nat.le_of_ble_eq_true rfl) hL) (Nat.le_of_ble_eq_true rfl) (Nat.le_of_ble_eq_true rfl) h (fun w5 hle h => ?_) (fun _ _ _ h => kzx_no rfl h)
    have h := h hle
    refine kz_iload_n (M := kt_M34) kX9_landAll_c2.1 rfl ?_
    refine kz_sti_n (M := kt_M34) [(0, .ref (w_adr E.2.1 8 0))] kX9_landAll_c2.2.1 (Nat.le_of_ble_eq_true rfl) ⟨⟨rfl, rfl, .inl rfl⟩, trivial⟩ rfl ?_
    refine kz_goto (M := kt_M34) kX9_landAll_c2.2.2.1 (t := 2) rfl ?_
    exact kz_weak [(0, .ref (w_adr E.2.1 8 0)), (2, .int v2)] ⟨rfl, ⟨rfl, trivial⟩⟩ rfl h
def zb_X9_landAll_p0 (E : zE) (L : Nat) (Q : kx_Rs → wS → Prop) (x1 : Int32) (w : wS) : Prop := zL_X9_landAll_p2 E L Q x1 w
theorem zt_X9_landAll_p0 {E : zE} {L : Nat} {Q : kx_Rs → wS → Prop} {x1 : Int32} {w : wS} (hL : 22 ≤ L) (h : zb_X9_landAll_p0 E L Q x1 w) : kzE E L kt_M34 0 [(0, .ref (w_adr E.2.1 8 0)), (1, .int x1)] [] w Q := by
  unfold zb_X9_landAll_p0 at h
  refine kz_iload_n (M := kt_M34) kX9_landAll_c0.1 rfl ?_
  refine kz_sti_n (M := kt_M34) [(0, .ref (w_adr E.2.1 8 0))] kX9_landAll_c0.2.1 (Nat.le_of_ble_eq_true rfl) ⟨⟨rfl, rfl, .inl rfl⟩, trivial⟩ rfl ?_
  exact kz_weak [(0, .ref (w_adr E.2.1 8 0)), (2, .int x1)] ⟨rfl, ⟨rfl, trivial⟩⟩ rfl h
def zL_X9_output_p104 (E : zE) (L : Nat) (Q : kx_Rs → wS → Prop) (x3 : Option Nat) (x4 : Option Nat) (x5 : Int32) (w : wS) : Prop := kzE E L kt_M41 104 [(0, .ref (w_adr E.2.1 8 0)), (3, va_rf (x3)), (4, va_rf (x4)), (5, .int x5)] [] w Q
def zb_X9_output_p162 (E : zE) (L : Nat) (Q : kx_Rs → wS → Prop) (x3 : Option Nat) (x5 : Int32) (y0 : Option Nat) (w : wS) : Prop := (∃ p1, x3 = some p1 ∧ w_l w E.2.1 14 p1 ∧ zL_X9_output_p104 E L Q (w_p w 14 p1 7) y0 x5 w)
theorem zt_X9_output_p162 {E : zE} {L : Nat} {Q : kx_Rs → wS → Prop} {x3 : Option Nat} {x5 : Int32} {y0 : Option Nat} {w : wS} (hL : 23 ≤ L) (h : zb_X9_output_p162 E L Q x3 x5 y0 w) : kzE E L kt_M41 162 [(0, .ref (w_adr E.2.1 8 0)), (3, va_rf (x3)), (5, .int x5)] [va_rf (y0)] w Q := by
  unfold zb_X9_output_p162 at h
  refine kz_stv (M := kt_M41) (x := y0) [(0, .ref (w_adr E.2.1 8 0)), (3, va_rf (x3)), (5, .int x5)] kX9_output_c9.2.2.2.2.2.2.2.1 (Nat.le_of_ble_eq_true rfl) ⟨⟨rfl, rfl, .inl rfl⟩, ⟨⟨rfl, rfl, .inr (w_cat (x3))⟩, ⟨⟨rfl, rfl, .inl rfl⟩, trivial⟩⟩⟩ rfl ?_
  refine kz_aload_nv (M := kt_M41) (x := x3) kX9_output_c10.1 rfl ?_
  obtain ⟨p1, hxp1, hlp1, h⟩ := h
  refine kz_nz0 (x := x3) hxp1 ?_
  refine kz_gfp (M := kt_M41) (c := 14) (o := p1) kX9_output_c10.2.1 wf_X9_129 (.inr (by exact hlp1)) ?_
  refine kz_stv_n (M := kt_M41) (x := w_p w 14 p1 7) [(0, .ref (w_adr E.2.1 8 0)), (4, va_rf (y0)), (5, .int x5)] kX9_output_c10.2.2.1 (Nat.le_of_ble_eq_true rfl) ⟨⟨rfl, rfl, .inl rfl⟩, ⟨⟨rfl, rfl, .inl rfl⟩, ⟨⟨rfl, rfl, .inl rfl⟩, trivial⟩⟩⟩ rfl ?_
  refine kz_goto (M := kt_M41) kX9_output_c10.2.2.2.1 (t := 104) rfl ?_
  exact kz_weak [(0, .ref (w_adr E.2.1 8 0)), (3, va_rf (w_p w 14 p1 7)), (4, va_rf (y0)), (5, .int x5)] ⟨rfl, ⟨rfl, ⟨rfl, ⟨rfl, trivial⟩⟩⟩⟩ rfl h
def zb_X9_output_p145 (E : zE) (L : Nat) (Q : kx_Rs → wS → Prop) (x3 : Option Nat) (x4 : Option Nat) (x5 : Int32) (w : wS) : Prop := (if ¬ x4 = none then (∃ p1, x4 = some p1 ∧ w_l w E.2.1 14 p1 ∧ zb_X9_output_p162 E L Q x3 (x5 + 1) (w_p w 14 p1 7) w) else zb_X9_output_p162 E L Q x3 (x5 + 1) none w)
theorem zt_X9_output_p145 {E : zE} {L : Nat} {Q : kx_Rs → wS → Prop} {x3 : Option Nat} {x4 : Option Nat} {x5 : Int32} {w : wS} (hL : 23 ≤ L) (h : zb_X9_output_p145 E L Q x3 x4 x5 w) : kzE E L kt_M41 145 [(0, .ref (w_adr E.2.1 8 0)), (3, va_rf (x3)), (4, va_rf (x4)), (5, .int x5)] [] w Q := by
  unfold zb_X9_output_p145 at h
  refine kz_inc (M := kt_M41) [(0, .ref (w_adr E.2.1 8 0)), (3, va_rf (x3)), (4, va_rf (x4))] kX9_output_c9.1 rfl (Nat.le_of_ble_eq_true rfl) ⟨⟨rfl, rfl, .inl rfl⟩, ⟨⟨rfl, rfl, .inl rfl⟩, ⟨⟨rfl, rfl, .inr (w_cat (x4))⟩, trivial⟩⟩⟩ rfl ?_
  refine kz_aloadv (M := kt_M41) (x := x4) kX9_output_c9.2.1 rfl ?_
  refine kz_ifnonnull (M := kt_M41) (x := x4) kX9_output_c9.2.2.1 (t := 157) rfl h (fun h => ?_) (fun h => ?_)
  · skip
    refine kz_aloadv (M := kt_M41) (x := x4) kX9_output_c9.2.2.2.2.2.1 rfl ?_
    obtain ⟨p1, hxp1, hlp1, h⟩ := h
    refine kz_nz0 (x := x4) hxp1 ?_
    refine kz_gfp (M := kt_M41) (c := 14) (o := p1) kX9_output_c9.2.2.2.2.2.2.1 wf_X9_129 (.inr (by exact hlp1)) ?_
    exact kz_weak [(0, .ref (w_adr E.2.1 8 0)), (3, va_rf (x3)), (5, .int (x5 + 1))] ⟨rfl, ⟨rfl, ⟨rfl, trivial⟩⟩⟩ rfl (zt_X9_output_p162 hL  h)
  · skip
    refine kz_null (M := kt_M41) kX9_output_c9.2.2.2.1 ?_
    refine kz_goto (M := kt_M41) kX9_output_c9.2.2.2.2.1 (t := 162) rfl ?_
    exact kz_weak [(0, .ref (w_adr E.2.1 8 0)), (3, va_rf (x3)), (5, .int (x5 + 1))] ⟨rfl, ⟨rfl, ⟨rfl, trivial⟩⟩⟩ rfl (zt_X9_output_p162 hL  h)
def zb_X9_output_p104 (E : zE) (L : Nat) (Q : kx_Rs → wS → Prop) (x3 : Option Nat) (x4 : Option Nat) (x5 : Int32) (w : wS) : Prop := (if x3 = none then zw E (L - 22) kt_M25 [.ref (w_adr E.2.1 8 0), .int 34, .int x5] w (wk0 (fun w1 => wle w w1 → Q (.inl none) w1) (fun e w => Q (.inr e) w)) else (∃ p3, x3 = some p3 ∧ w_l w E.2.1 14 p3 ∧ (if w_i w 14 p3 20 = 0 then zw E (L - 23) kt_M27 [.ref (w_adr E.2.1 8 0), va_rf (x3)] w (wk0 (fun w4 => wle w w4 → zw E (L - 22) kt_M25 [.ref (w_adr E.2.1 8 0), .int 2, .int (-1)] w4 (wk0 (fun w6 => wle w4 w6 → zb_X9_output_p145 E L Q x3 x4 x5 w6) (fun e w => Q (.inr e) w))) (fun e w => Q (.inr e) w)) else zw E (L - 23) kt_M19 [.ref (w_adr E.2.1 8 0), va_rf (x3)] w (wk0 (fun w8 => wle w w8 → (∃ p10, x4 = some p10 ∧ w_l w8 E.2.1 14 p10 ∧ zw E (L - 22) kt_M25 [.ref (w_adr E.2.1 8 0), .int 31, .int (w_i w8 14 p10 18)] w8 (wk0 (fun w11 => wle w8 w11 → zb_X9_output_p145 E L Q x3 x4 x5 w11) (fun e w => Q (.inr e) w)))) (fun e w => Q (.inr e) w)))))
theorem zt_X9_output_p104 {E : zE} {L : Nat} {Q : kx_Rs → wS → Prop} {x3 : Option Nat} {x4 : Option Nat} {x5 : Int32} {w : wS} (hL : 23 ≤ L) (h : zb_X9_output_p104 E L Q x3 x4 x5 w) : kzE E L kt_M41 104 [(0, .ref (w_adr E.2.1 8 0)), (3, va_rf (x3)), (4, va_rf (x4)), (5, .int x5)] [] w Q := by
  unfold zb_X9_output_p104 at h
  refine kz_aload_nv (M := kt_M41) (x := x3) kX9_output_c6.2.2.2.1 rfl ?_
  refine kz_ifnull (M := kt_M41) (x := x3) kX9_output_c6.2.2.2.2.1 (t := 172) rfl h (fun h => ?_) (fun h => ?_)
  · skip
    refine kz_aload_n (M := kt_M41) kX9_output_c10.2.2.2.2.1 rfl ?_
    refine kz_bi (M := kt_M41) 34 kX9_output_c10.2.2.2.2.2.1 rfl ?_
    refine kz_iload (M := kt_M41) kX9_output_c10.2.2.2.2.2.2.1 rfl ?_
    refine kz_cv0 (M := kt_M41) (c := 8) (o := 0) (As := [.int 34, .int x5]) (rest := []) kX9_output_c10.2.2.2.2.2.2.2.1 wl_X9_42 wMv_25 rfl (.inl rfl) rfl (Nat.le_trans (Nat.le_of_ble_eq_true rfl) hL) (Nat.le_of_ble_eq_true rfl) (Nat.le_of_ble_eq_true rfl) h (fun w1 hle h => ?_) (fun _ _ _ h => kzx_no rfl h)
    have h := h hle
    exact kz_ret (M := kt_M41) kX9_output_c11.1 rfl h
  · skip
    refine kz_aload_nv (M := kt_M41) (x := x3) kX9_output_c6.2.2.2.2.2.1 rfl ?_
    obtain ⟨p3, hxp3, hlp3, h⟩ := h
    refine kz_nz0 (x := x3) hxp3 ?_
    refine kz_gfi (M := kt_M41) (c := 14) (o := p3) kX9_output_c6.2.2.2.2.2.2.1 wf_X9_281 (.inr (by exact hlp3)) ?_
    refine kz_if_eq (M := kt_M41) kX9_output_c6.2.2.2.2.2.2.2.1 (t := 134) rfl h (fun h => ?_) (fun h => ?_)
    · skip
      refine kz_aload_n (M := kt_M41) kX9_output_c8.2.1 rfl ?_
      refine kz_aload_nv (M := kt_M41) (x := x3) kX9_output_c8.2.2.1 rfl ?_
      refine kz_cv0 (M := kt_M41) (c := 8) (o := 0) (As := [va_rf (x3)]) (rest := []) kX9_output_c8.2.2.2.1 wl_X9_200 wMv_27 rfl (.inl rfl) rfl (Nat.le_trans (Nat.le_of_ble_eq_true rfl) hL) (by simp [lg_sl, w_cat, z_ci, z_cr, z_cl, z_cn, kt_M27]) (Nat.le_of_ble_eq_true rfl) h (fun w4 hle h => ?_) (fun _ _ _ h => kzx_no rfl h)
      have h := h hle
      have hlp3 := w_l_le hlp3 hle
      refine kz_aload_n (M := kt_M41) kX9_output_c8.2.2.2.2.1 rfl ?_
      refine kz_ic (M := kt_M41) 2 kX9_output_c8.2.2.2.2.2.1 rfl ?_
      refine kz_ic (M := kt_M41) (-1) kX9_output_c8.2.2.2.2.2.2.1 rfl ?_
      refine kz_cv0 (M := kt_M41) (c := 8) (o := 0) (As := [.int 2, .int (-1)]) (rest := []) kX9_output_c8.2.2.2.2.2.2.2.1 wl_X9_42 wMv_25 rfl (.inl rfl) rfl (Nat.le_trans (Nat.le_of_ble_eq_true rfl) hL) (Nat.le_of_ble_eq_true rfl) (Nat.le_of_ble_eq_true rfl) h (fun w6 hle h => ?_) (fun _ _ _ h => kzx_no rfl h)
      have h := h hle
      have hlp3 := w_l_le hlp3 hle
      exact kz_weak [(0, .ref (w_adr E.2.1 8 0)), (3, va_rf (x3)), (4, va_rf (x4)), (5, .int x5)] ⟨rfl, ⟨rfl, ⟨rfl, ⟨rfl, trivial⟩⟩⟩⟩ rfl (zt_X9_output_p145 hL  h)
    · skip
      refine kz_aload_n (M := kt_M41) kX9_output_c7.1 rfl ?_
      refine kz_aload_nv (M := kt_M41) (x := x3) kX9_output_c7.2.1 rfl ?_
      refine kz_cv0 (M := kt_M41) (c := 8) (o := 0) (As := [va_rf (x3)]) (rest := []) kX9_output_c7.2.2.1 wl_X9_198 wMv_19 rfl (.inl rfl) rfl (Nat.le_trans (Nat.le_of_ble_eq_true rfl) hL) (by simp [lg_sl, w_cat, z_ci, z_cr, z_cl, z_cn, kt_M19]) (Nat.le_of_ble_eq_true rfl) h (fun w8 hle h => ?_) (fun _ _ _ h => kzx_no rfl h)
      have h := h hle
      have hlp3 := w_l_le hlp3 hle
      refine kz_aload_n (M := kt_M41) kX9_output_c7.2.2.2.1 rfl ?_
      refine kz_bi (M := kt_M41) 31 kX9_output_c7.2.2.2.2.1 rfl ?_
      refine kz_aloadv (M := kt_M41) (x := x4) kX9_output_c7.2.2.2.2.2.1 rfl ?_
      obtain ⟨p10, hxp10, hlp10, h⟩ := h
      refine kz_nz0 (x := x4) hxp10 ?_
      refine kz_gfi (M := kt_M41) (c := 14) (o := p10) kX9_output_c7.2.2.2.2.2.2.1 wf_X9_295 (.inr (by exact hlp10)) ?_
      refine kz_cv0 (M := kt_M41) (c := 8) (o := 0) (As := [.int 31, .int (w_i w8 14 p10 18)]) (rest := []) kX9_output_c7.2.2.2.2.2.2.2.1 wl_X9_42 wMv_25 rfl (.inl rfl) rfl (Nat.le_trans (Nat.le_of_ble_eq_true rfl) hL) (Nat.le_of_ble_eq_true rfl) (Nat.le_of_ble_eq_true rfl) h (fun w11 hle h => ?_) (fun _ _ _ h => kzx_no rfl h)
      have h := h hle
      have hlp10 := w_l_le hlp10 hle
      have hlp3 := w_l_le hlp3 hle
      refine kz_goto (M := kt_M41) kX9_output_c8.1 (t := 145) rfl ?_
      exact kz_weak [(0, .ref (w_adr E.2.1 8 0)), (3, va_rf (x3)), (4, va_rf (x4)), (5, .int x5)] ⟨rfl, ⟨rfl, ⟨rfl, ⟨rfl, trivial⟩⟩⟩⟩ rfl (zt_X9_output_p145 hL  h)
def zb_X9_output_p44 (E : zE) (L : Nat) (Q : kx_Rs → wS → Prop) (x3 : Option Nat) (y0 : Option Nat) (w : wS) : Prop := (∃ p1, x3 = some p1 ∧ w_l w E.2.1 14 p1 ∧ (if (w_p w 14 p1 16) = none then zL_X9_output_p104 E L Q x3 y0 0 w else (∃ p2, w_p w 14 p1 16 = some p2 ∧ w_l w E.2.1 15 p2 ∧ (if ¬ w_p w 15 p2 0 = some (E.1.1 59) then zL_X9_output_p104 E L Q x3 y0 0 w else zw E (L - 22) kt_M25 [.ref (w_adr E.2.1 8 0), .int 2, .int (w_i w 15 p2 8)] w (wk0 (fun w3 => wle w w3 → zw E (L - 22) kt_M25 [.ref (w_adr E.2.1 8 0), .int 2, .int (-1)] w3 (wk0 (fun w5 => wle w3 w5 → (∃ p7, w_p w5 14 p1 16 = some p7 ∧ w_l w5 E.2.1 15 p7 ∧ zL_X9_output_p104 E L Q (w_p w5 14 p1 7) (w_p w5 15 p7 17) (0 + 1) w5)) (fun e w => Q (.inr e) w))) (fun e w => Q (.inr e) w))))))
theorem zt_X9_output_p44 {E : zE} {L : Nat} {Q : kx_Rs → wS → Prop} {x3 : Option Nat} {y0 : Option Nat} {w : wS} (hL : 23 ≤ L) (h : zb_X9_output_p44 E L Q x3 y0 w) : kzE E L kt_M41 44 [(0, .ref (w_adr E.2.1 8 0)), (3, va_rf (x3))] [va_rf (y0)] w Q := by
  unfold zb_X9_output_p44 at h
  refine kz_stv (M := kt_M41) (x := y0) [(0, .ref (w_adr E.2.1 8 0)), (3, va_rf (x3))] kX9_output_c2.2.2.2.2.2.2.1 (Nat.le_of_ble_eq_true rfl) ⟨⟨rfl, rfl, .inl rfl⟩, ⟨⟨rfl, rfl, .inr (w_cat (x3))⟩, trivial⟩⟩ rfl ?_
  refine kz_ic (M := kt_M41) 0 kX9_output_c2.2.2.2.2.2.2.2.1 rfl ?_
  refine kz_sti (M := kt_M41) [(0, .ref (w_adr E.2.1 8 0)), (3, va_rf (x3)), (4, va_rf (y0))] kX9_output_c3.1 (Nat.le_of_ble_eq_true rfl) ⟨⟨rfl, rfl, .inl rfl⟩, ⟨⟨rfl, rfl, .inl rfl⟩, ⟨⟨rfl, rfl, .inr (w_cat (y0))⟩, trivial⟩⟩⟩ rfl ?_
  refine kz_aload_nv (M := kt_M41) (x := x3) kX9_output_c3.2.1 rfl ?_
  obtain ⟨p1, hxp1, hlp1, h⟩ := h
  refine kz_nz0 (x := x3) hxp1 ?_
  refine kz_gfp (M := kt_M41) (c := 14) (o := p1) kX9_output_c3.2.2.1 wf_X9_115 (.inr (by exact hlp1)) ?_
  refine kz_ifnull (M := kt_M41) (x := w_p w 14 p1 16) kX9_output_c3.2.2.2.1 (t := 104) rfl h (fun h => ?_) (fun h => ?_)
  · skip
    exact kz_weak [(0, .ref (w_adr E.2.1 8 0)), (3, va_rf (x3)), (4, va_rf (y0)), (5, .int 0)] ⟨rfl, ⟨rfl, ⟨rfl, ⟨rfl, trivial⟩⟩⟩⟩ rfl h
  · skip
    refine kz_aload_nv (M := kt_M41) (x := x3) kX9_output_c3.2.2.2.2.1 rfl ?_
    refine kz_nz0 (x := x3) hxp1 ?_
    refine kz_gfp (M := kt_M41) (c := 14) (o := p1) kX9_output_c3.2.2.2.2.2.1 wf_X9_115 (.inr (by exact hlp1)) ?_
    obtain ⟨p2, hxp2, hlp2, h⟩ := h
    refine kz_nz0 (x := w_p w 14 p1 16) hxp2 ?_
    refine kz_gfp (M := kt_M41) (c := 15) (o := p2) kX9_output_c3.2.2.2.2.2.2.1 wf_X9_245 (.inr (by exact hlp2)) ?_
    refine kz_getsE (M := kt_M41) (v := va_rf (some (E.1.1 59))) kX9_output_c3.2.2.2.2.2.2.2.1 zs_X9_296 ?_
    refine kz_acmp_ne (M := kt_M41) (x := w_p w 15 p2 0) (y := some (E.1.1 59)) kX9_output_c4.1 (t := 104) rfl h (fun h => ?_) (fun h => ?_)
    · skip
      exact kz_weak [(0, .ref (w_adr E.2.1 8 0)), (3, va_rf (x3)), (4, va_rf (y0)), (5, .int 0)] ⟨rfl, ⟨rfl, ⟨rfl, ⟨rfl, trivial⟩⟩⟩⟩ rfl h
    · skip
      refine kz_aload_n (M := kt_M41) kX9_output_c4.2.1 rfl ?_
      refine kz_ic (M := kt_M41) 2 kX9_output_c4.2.2.1 rfl ?_
      refine kz_aload_nv (M := kt_M41) (x := x3) kX9_output_c4.2.2.2.1 rfl ?_
      refine kz_nz0 (x := x3) hxp1 ?_
      refine kz_gfp (M := kt_M41) (c := 14) (o := p1) kX9_output_c4.2.2.2.2.1 wf_X9_115 (.inr (by exact hlp1)) ?_
      refine kz_nz0 (x := w_p w 14 p1 16) hxp2 ?_
      refine kz_gfi (M := kt_M41) (c := 15) (o := p2) kX9_output_c4.2.2.2.2.2.1 wf_X9_299 (.inr (by exact hlp2)) ?_
      refine kz_cv0 (M := kt_M41) (c := 8) (o := 0) (As := [.int 2, .int (w_i w 15 p2 8)]) (rest := []) kX9_output_c4.2.2.2.2.2.2.1 wl_X9_42 wMv_25 rfl (.inl rfl) rfl (Nat.le_trans (Nat.le_of_ble_eq_true rfl) hL) (Nat.le_of_ble_eq_true rfl) (Nat.le_of_ble_eq_true rfl) h (fun w3 hle h => ?_) (fun _ _ _ h => kzx_no rfl h)
      have h := h hle
      have hlp1 := w_l_le hlp1 hle
      have hlp2 := w_l_le hlp2 hle
      refine kz_aload_n (M := kt_M41) kX9_output_c4.2.2.2.2.2.2.2.1 rfl ?_
      refine kz_ic (M := kt_M41) 2 kX9_output_c5.1 rfl ?_
      refine kz_ic (M := kt_M41) (-1) kX9_output_c5.2.1 rfl ?_
      refine kz_cv0 (M := kt_M41) (c := 8) (o := 0) (As := [.int 2, .int (-1)]) (rest := []) kX9_output_c5.2.2.1 wl_X9_42 wMv_25 rfl (.inl rfl) rfl (Nat.le_trans (Nat.le_of_ble_eq_true rfl) hL) (Nat.le_of_ble_eq_true rfl) (Nat.le_of_ble_eq_true rfl) h (fun w5 hle h => ?_) (fun _ _ _ h => kzx_no rfl h)
      have h := h hle
      have hlp1 := w_l_le hlp1 hle
      have hlp2 := w_l_le hlp2 hle
      refine kz_aload_nv (M := kt_M41) (x := x3) kX9_output_c5.2.2.2.1 rfl ?_
      refine kz_nz0 (x := x3) hxp1 ?_
      refine kz_gfp (M := kt_M41) (c := 14) (o := p1) kX9_output_c5.2.2.2.2.1 wf_X9_115 (.inr (by exact hlp1)) ?_
      obtain ⟨p7, hxp7, hlp7, h⟩ := h
      refine kz_nz0 (x := w_p w5 14 p1 16) hxp7 ?_
      refine kz_gfp (M := kt_M41) (c := 15) (o := p7) kX9_output_c5.2.2.2.2.2.1 wf_X9_288 (.inr (by exact hlp7)) ?_
      refine kz_stv (M := kt_M41) (x := w_p w5 15 p7 17) [(0, .ref (w_adr E.2.1 8 0)), (3, va_rf (x3)), (5, .int 0)] kX9_output_c5.2.2.2.2.2.2.1 (Nat.le_of_ble_eq_true rfl) ⟨⟨rfl, rfl, .inl rfl⟩, ⟨⟨rfl, rfl, .inr (w_cat (x3))⟩, ⟨⟨rfl, rfl, .inl rfl⟩, trivial⟩⟩⟩ rfl ?_
      refine kz_aload_nv (M := kt_M41) (x := x3) kX9_output_c5.2.2.2.2.2.2.2.1 rfl ?_
      refine kz_nz0 (x := x3) hxp1 ?_
      refine kz_gfp (M := kt_M41) (c := 14) (o := p1) kX9_output_c6.1 wf_X9_129 (.inr (by exact hlp1)) ?_
      refine kz_stv_n (M := kt_M41) (x := w_p w5 14 p1 7) [(0, .ref (w_adr E.2.1 8 0)), (4, va_rf (w_p w5 15 p7 17)), (5, .int 0)] kX9_output_c6.2.1 (Nat.le_of_ble_eq_true rfl) ⟨⟨rfl, rfl, .inl rfl⟩, ⟨⟨rfl, rfl, .inl rfl⟩, ⟨⟨rfl, rfl, .inl rfl⟩, trivial⟩⟩⟩ rfl ?_
      refine kz_inc (M := kt_M41) [(0, .ref (w_adr E.2.1 8 0)), (3, va_rf (w_p w5 14 p1 7)), (4, va_rf (w_p w5 15 p7 17))] kX9_output_c6.2.2.1 rfl (Nat.le_of_ble_eq_true rfl) ⟨⟨rfl, rfl, .inl rfl⟩, ⟨⟨rfl, rfl, .inl rfl⟩, ⟨⟨rfl, rfl, .inr (w_cat (w_p w5 15 p7 17))⟩, trivial⟩⟩⟩ rfl ?_
      exact kz_weak [(0, .ref (w_adr E.2.1 8 0)), (3, va_rf (w_p w5 14 p1 7)), (4, va_rf (w_p w5 15 p7 17)), (5, .int (0 + 1))] ⟨rfl, ⟨rfl, ⟨rfl, ⟨rfl, trivial⟩⟩⟩⟩ rfl h
def zb_X9_output_p0 (E : zE) (L : Nat) (Q : kx_Rs → wS → Prop) (x1 : Option Nat) (w : wS) : Prop := zw E (L - 21) kt_M15 [.ref (w_adr E.2.1 8 0), va_rf (x1)] w (wk0 (fun w1 => wle w w1 → (∃ p3, x1 = some p3 ∧ w_l w1 E.2.1 14 p3 ∧ zw E (L - 22) kt_M44 [.ref (w_adr E.2.1 8 0), va_rf (w_p w1 14 p3 3)] w1 (wk0 (fun w4 => wle w1 w4 → (∃ p6, w_p w4 14 p3 3 = some p6 ∧ w_l w4 E.2.1 14 p6 ∧ (∃ p7, w_p w4 14 p6 16 = some p7 ∧ w_l w4 E.2.1 15 p7 ∧ (if ¬ (w_p w4 15 p7 15) = none then (∃ p8, w_p w4 15 p7 15 = some p8 ∧ w_l w4 E.2.1 15 p8 ∧ zb_X9_output_p44 E L Q (w_p w4 14 p3 4) (w_p w4 15 p8 17) w4) else zb_X9_output_p44 E L Q (w_p w4 14 p3 4) none w4)))) (fun e w => Q (.inr e) w)))) (fun e w => Q (.inr e) w))
theorem zt_X9_output_p0 {E : zE} {L : Nat} {Q : kx_Rs → wS → Prop} {x1 : Option Nat} {w : wS} (hL : 23 ≤ L) (h : zb_X9_output_p0 E L Q x1 w) : kzE E L kt_M41 0 [(0, .ref (w_adr E.2.1 8 0)), (1, va_rf (x1))] [] w Q := by
  unfold zb_X9_output_p0 at h
  refine kz_aload_n (M := kt_M41) kX9_output_c0.1 rfl ?_
  refine kz_aload_nv (M := kt_M41) (x := x1) kX9_output_c0.2.1 rfl ?_
  refine kz_cv0 (M := kt_M41) (c := 8) (o := 0) (As := [va_rf (x1)]) (rest := []) kX9_output_c0.2.2.1 wl_X9_239 wMv_15 rfl (.inl rfl) rfl (Nat.le_trans (Nat.le_of_ble_eq_true rfl) hL) (by simp [lg_sl, w_cat, z_ci, z_cr, z_cl, z_cn, kt_M15]) (Nat.le_of_ble_eq_true rfl) h (fun w1 hle h => ?_) (fun _ _ _ h => kzx_no rfl h)
  have h := h hle
  refine kz_aload_n (M := kt_M41) kX9_output_c0.2.2.2.1 rfl ?_
  refine kz_aload_nv (M := kt_M41) (x := x1) kX9_output_c0.2.2.2.2.1 rfl ?_
  obtain ⟨p3, hxp3, hlp3, h⟩ := h
  refine kz_nz0 (x := x1) hxp3 ?_
  refine kz_gfp (M := kt_M41) (c := 14) (o := p3) kX9_output_c0.2.2.2.2.2.1 wf_X9_93 (.inr (by exact hlp3)) ?_
  refine kz_cv0 (M := kt_M41) (c := 8) (o := 0) (As := [va_rf (w_p w1 14 p3 3)]) (rest := []) kX9_output_c0.2.2.2.2.2.2.1 wl_X9_179 wMv_44 rfl (.inl rfl) rfl (Nat.le_trans (Nat.le_of_ble_eq_true rfl) hL) (by simp [lg_sl, w_cat, z_ci, z_cr, z_cl, z_cn, kt_M44]) (Nat.le_of_ble_eq_true rfl) h (fun w4 hle h => ?_) (fun _ _ _ h => kzx_no rfl h)
  have h := h hle
  have hlp3 := w_l_le hlp3 hle
  refine kz_aload_nv (M := kt_M41) (x := x1) kX9_output_c0.2.2.2.2.2.2.2.1 rfl ?_
  refine kz_nz0 (x := x1) hxp3 ?_
  refine kz_gfp (M := kt_M41) (c := 14) (o := p3) kX9_output_c1.1 wf_X9_93 (.inr (by exact hlp3)) ?_
  obtain ⟨p6, hxp6, hlp6, h⟩ := h
  refine kz_nz0 (x := w_p w4 14 p3 3) hxp6 ?_
  refine kz_gfp (M := kt_M41) (c := 14) (o := p6) kX9_output_c1.2.1 wf_X9_115 (.inr (by exact hlp6)) ?_
  refine kz_stv_n (M := kt_M41) (x := w_p w4 14 p6 16) [(0, .ref (w_adr E.2.1 8 0)), (1, va_rf (x1))] kX9_output_c1.2.2.1 (Nat.le_of_ble_eq_true rfl) ⟨⟨rfl, rfl, .inl rfl⟩, ⟨⟨rfl, rfl, .inr (w_cat (x1))⟩, trivial⟩⟩ rfl ?_
  refine kz_aload_nv (M := kt_M41) (x := x1) kX9_output_c1.2.2.2.1 rfl ?_
  refine kz_nz0 (x := x1) hxp3 ?_
  refine kz_gfp (M := kt_M41) (c := 14) (o := p3) kX9_output_c1.2.2.2.2.1 wf_X9_112 (.inr (by exact hlp3)) ?_
  refine kz_stv_n (M := kt_M41) (x := w_p w4 14 p3 4) [(0, .ref (w_adr E.2.1 8 0)), (2, va_rf (w_p w4 14 p6 16))] kX9_output_c1.2.2.2.2.2.1 (Nat.le_of_ble_eq_true rfl) ⟨⟨rfl, rfl, .inl rfl⟩, ⟨⟨rfl, rfl, .inr (w_cat (w_p w4 14 p6 16))⟩, trivial⟩⟩ rfl ?_
  refine kz_aload_nv (M := kt_M41) (x := w_p w4 14 p6 16) kX9_output_c1.2.2.2.2.2.2.1 rfl ?_
  obtain ⟨p7, hxp7, hlp7, h⟩ := h
  refine kz_nz0 (x := w_p w4 14 p6 16) hxp7 ?_
  refine kz_gfp (M := kt_M41) (c := 15) (o := p7) kX9_output_c1.2.2.2.2.2.2.2.1 wf_X9_285 (.inr (by exact hlp7)) ?_
  refine kz_ifnonnull (M := kt_M41) (x := w_p w4 15 p7 15) kX9_output_c2.1 (t := 37) rfl h (fun h => ?_) (fun h => ?_)
  · skip
    refine kz_aload_nv (M := kt_M41) (x := w_p w4 14 p6 16) kX9_output_c2.2.2.2.1 rfl ?_
    refine kz_nz0 (x := w_p w4 14 p6 16) hxp7 ?_
    refine kz_gfp (M := kt_M41) (c := 15) (o := p7) kX9_output_c2.2.2.2.2.1 wf_X9_285 (.inr (by exact hlp7)) ?_
    obtain ⟨p8, hxp8, hlp8, h⟩ := h
    refine kz_nz0 (x := w_p w4 15 p7 15) hxp8 ?_
    refine kz_gfp (M := kt_M41) (c := 15) (o := p8) kX9_output_c2.2.2.2.2.2.1 wf_X9_288 (.inr (by exact hlp8)) ?_
    exact kz_weak [(0, .ref (w_adr E.2.1 8 0)), (3, va_rf (w_p w4 14 p3 4))] ⟨rfl, ⟨rfl, trivial⟩⟩ rfl (zt_X9_output_p44 hL  h)
  · skip
    refine kz_null (M := kt_M41) kX9_output_c2.2.1 ?_
    refine kz_goto (M := kt_M41) kX9_output_c2.2.2.1 (t := 44) rfl ?_
    exact kz_weak [(0, .ref (w_adr E.2.1 8 0)), (3, va_rf (w_p w4 14 p3 4))] ⟨rfl, ⟨rfl, trivial⟩⟩ rfl (zt_X9_output_p44 hL  h)
def zL_X9_sequence_p12 (E : zE) (L : Nat) (Q : kx_Rs → wS → Prop) (x2 : Option Nat) (w : wS) : Prop := kzE E L kt_M48 12 [(0, .ref (w_adr E.2.1 8 0)), (2, va_rf (x2))] [] w Q
def zb_X9_sequence_p12 (E : zE) (L : Nat) (Q : kx_Rs → wS → Prop) (x2 : Option Nat) (w : wS) : Prop := (if x2 = none then Q (.inl none) w else zw E (L - 22) kt_M46 [.ref (w_adr E.2.1 8 0), va_rf (x2)] w (wk0 (fun w1 => wle w w1 → (∃ p3, x2 = some p3 ∧ w_l w1 E.2.1 14 p3 ∧ zL_X9_sequence_p12 E L Q (w_p w1 14 p3 7) w1)) (fun e w => Q (.inr e) w)))
theorem zt_X9_sequence_p12 {E : zE} {L : Nat} {Q : kx_Rs → wS → Prop} {x2 : Option Nat} {w : wS} (hL : 23 ≤ L) (h : zb_X9_sequence_p12 E L Q x2 w) : kzE E L kt_M48 12 [(0, .ref (w_adr E.2.1 8 0)), (2, va_rf (x2))] [] w Q := by
  unfold zb_X9_sequence_p12 at h
  refine kz_aload_nv (M := kt_M48) (x := x2) kX9_sequence_c0.2.2.2.2.2.2.1 rfl ?_
  refine kz_ifnull (M := kt_M48) (x := x2) kX9_sequence_c0.2.2.2.2.2.2.2.1 (t := 29) rfl h (fun h => ?_) (fun h => ?_)
  · skip
    exact kz_ret (M := kt_M48) kX9_sequence_c1.2.2.2.2.2.2.2.1 rfl h
  · skip
    refine kz_aload_n (M := kt_M48) kX9_sequence_c1.1 rfl ?_
    refine kz_aload_nv (M := kt_M48) (x := x2) kX9_sequence_c1.2.1 rfl ?_
    refine kz_cv0 (M := kt_M48) (c := 8) (o := 0) (As := [va_rf (x2)]) (rest := []) kX9_sequence_c1.2.2.1 wl_X9_218 wMv_46 rfl (.inl rfl) rfl (Nat.le_trans (Nat.le_of_ble_eq_true rfl) hL) (by simp [lg_sl, w_cat, z_ci, z_cr, z_cl, z_cn, kt_M46]) (Nat.le_of_ble_eq_true rfl) h (fun w1 hle h => ?_) (fun _ _ _ h => kzx_no rfl h)
    have h := h hle
    refine kz_aload_nv (M := kt_M48) (x := x2) kX9_sequence_c1.2.2.2.1 rfl ?_
    obtain ⟨p3, hxp3, hlp3, h⟩ := h
    refine kz_nz0 (x := x2) hxp3 ?_
    refine kz_gfp (M := kt_M48) (c := 14) (o := p3) kX9_sequence_c1.2.2.2.2.1 wf_X9_129 (.inr (by exact hlp3)) ?_
    refine kz_stv_n (M := kt_M48) (x := w_p w1 14 p3 7) [(0, .ref (w_adr E.2.1 8 0))] kX9_sequence_c1.2.2.2.2.2.1 (Nat.le_of_ble_eq_true rfl) ⟨⟨rfl, rfl, .inl rfl⟩, trivial⟩ rfl ?_
    refine kz_goto (M := kt_M48) kX9_sequence_c1.2.2.2.2.2.2.1 (t := 12) rfl ?_
    exact kz_weak [(0, .ref (w_adr E.2.1 8 0)), (2, va_rf (w_p w1 14 p3 7))] ⟨rfl, ⟨rfl, trivial⟩⟩ rfl h
def zb_X9_sequence_p0 (E : zE) (L : Nat) (Q : kx_Rs → wS → Prop) (x1 : Option Nat) (w : wS) : Prop := (∃ p1, x1 = some p1 ∧ w_l w E.2.1 14 p1 ∧ (if ¬ (w_p w 14 p1 3) = none then (∃ p2, w_p w 14 p1 3 = some p2 ∧ w_l w E.2.1 14 p2 ∧ zw E (L - 22) kt_M30 [.ref (w_adr E.2.1 8 0), va_rf (w_p w 14 p2 16), .int 1] w (wk0 (fun w3 => wle w w3 → zw E (L - 22) kt_M50 [.ref (w_adr E.2.1 8 0), .int 1] w3 (wk1 (fun v6 w5 => wle w3 w5 → zw E (L - 21) kt_M15 [.ref (w_adr E.2.1 8 0), va_rf (x1)] w5 (wk0 (fun w7 => wle w5 w7 → (∃ p9, w_p w7 14 p1 3 = some p9 ∧ w_l w7 E.2.1 14 p9 ∧ zw E (L - 23) kt_M27 [.ref (w_adr E.2.1 8 0), va_rf (w_p w7 14 p9 3)] w7 (wk0 (fun w10 => wle w7 w10 → (∃ p12, w_p w10 14 p1 3 = some p12 ∧ w_l w10 E.2.1 14 p12 ∧ zw E (L - 23) kt_M27 [.ref (w_adr E.2.1 8 0), va_rf (w_p w10 14 p12 4)] w10 (wk0 (fun w13 => wle w10 w13 → (∃ p15, w_p w 14 p2 16 = some p15 ∧ w_l w13 E.2.1 15 p15 ∧ zw E (L - 23) kt_M26 [.ref (w_adr E.2.1 8 0), .int 19, .int (w_i w13 15 p15 21), .int v6] w13 (wk0 (fun w16 => wle w13 w16 → zw E (L - 20) kt_M29 [.ref (w_adr E.2.1 8 0)] w16 (wk1 (fun v19 w18 => wle w16 w18 → zw E (L - 23) kt_M26 [.ref (w_adr E.2.1 8 0), .int 20, .int (w_i w18 15 p15 21), .int v6] w18 (wk0 (fun w20 => wle w18 w20 → zw E (L - 20) kt_M29 [.ref (w_adr E.2.1 8 0)] w20 (wk1 (fun v23 w22 => wle w20 w22 → zw E (L - 22) kt_M219 [.ref (w_adr E.2.1 9 0), .int 0] w22 (wk0 (fun w24 => wle w22 w24 → zw E (L - 22) kt_M46 [.ref (w_adr E.2.1 8 0), va_rf (w_p w24 14 p1 4)] w24 (wk0 (fun w26 => wle w24 w26 → zw E (L - 21) kt_M15 [.ref (w_adr E.2.1 8 0), va_rf (x1)] w26 (wk0 (fun w28 => wle w26 w28 → zw E (L - 22) kt_M25 [.ref (w_adr E.2.1 8 0), .int 15, .int v19] w28 (wk0 (fun w30 => wle w28 w30 → zw E (L - 21) kt_M33 [.ref (w_adr E.2.1 8 0), .int v23] w30 (wk0 (fun w32 => wle w30 w32 → Q (.inl none) w32) (fun e w => Q (.inr e) w))) (fun e w => Q (.inr e) w))) (fun e w => Q (.inr e) w))) (fun e w => Q (.inr e) w))) (fun e w => Q (.inr e) w))) (fun e w => Q (.inr e) w))) (fun e w => Q (.inr e) w))) (fun e w => Q (.inr e) w))) (fun e w => Q (.inr e) w)))) (fun e w => Q (.inr e) w)))) (fun e w => Q (.inr e) w)))) (fun e w => Q (.inr e) w))) (fun e w => Q (.inr e) w))) (fun e w => Q (.inr e) w))) else zL_X9_sequence_p12 E L Q (w_p w 14 p1 4) w))
theorem zt_X9_sequence_p0 {E : zE} {L : Nat} {Q : kx_Rs → wS → Prop} {x1 : Option Nat} {w : wS} (hL : 23 ≤ L) (h : zb_X9_sequence_p0 E L Q x1 w) : kzE E L kt_M48 0 [(0, .ref (w_adr E.2.1 8 0)), (1, va_rf (x1))] [] w Q := by
  unfold zb_X9_sequence_p0 at h
  refine kz_aload_nv (M := kt_M48) (x := x1) kX9_sequence_c0.1 rfl ?_
  obtain ⟨p1, hxp1, hlp1, h⟩ := h
  refine kz_nz0 (x := x1) hxp1 ?_
  refine kz_gfp (M := kt_M48) (c := 14) (o := p1) kX9_sequence_c0.2.1 wf_X9_93 (.inr (by exact hlp1)) ?_
  refine kz_ifnonnull (M := kt_M48) (x := w_p w 14 p1 3) kX9_sequence_c0.2.2.1 (t := 30) rfl h (fun h => ?_) (fun h => ?_)
  · skip
    refine kz_aload_nv (M := kt_M48) (x := x1) kX9_sequence_c2.1 rfl ?_
    refine kz_nz0 (x := x1) hxp1 ?_
    refine kz_gfp (M := kt_M48) (c := 14) (o := p1) kX9_sequence_c2.2.1 wf_X9_93 (.inr (by exact hlp1)) ?_
    obtain ⟨p2, hxp2, hlp2, h⟩ := h
    refine kz_nz0 (x := w_p w 14 p1 3) hxp2 ?_
    refine kz_gfp (M := kt_M48) (c := 14) (o := p2) kX9_sequence_c2.2.2.1 wf_X9_115 (.inr (by exact hlp2)) ?_
    refine kz_stv_n (M := kt_M48) (x := w_p w 14 p2 16) [(0, .ref (w_adr E.2.1 8 0)), (1, va_rf (x1))] kX9_sequence_c2.2.2.2.1 (Nat.le_of_ble_eq_true rfl) ⟨⟨rfl, rfl, .inl rfl⟩, ⟨⟨rfl, rfl, .inr (w_cat (x1))⟩, trivial⟩⟩ rfl ?_
    refine kz_aload_n (M := kt_M48) kX9_sequence_c2.2.2.2.2.1 rfl ?_
    refine kz_aload_nv (M := kt_M48) (x := w_p w 14 p2 16) kX9_sequence_c2.2.2.2.2.2.1 rfl ?_
    refine kz_ic (M := kt_M48) 1 kX9_sequence_c2.2.2.2.2.2.2.1 rfl ?_
    refine kz_cv0 (M := kt_M48) (c := 8) (o := 0) (As := [va_rf (w_p w 14 p2 16), .int 1]) (rest := []) kX9_sequence_c2.2.2.2.2.2.2.2.1 wl_X9_169 wMv_30 rfl (.inl rfl) rfl (Nat.le_trans (Nat.le_of_ble_eq_true rfl) hL) (by simp [lg_sl, w_cat, z_ci, z_cr, z_cl, z_cn, kt_M30]) (Nat.le_of_ble_eq_true rfl) h (fun w3 hle h => ?_) (fun _ _ _ h => kzx_no rfl h)
    have h := h hle
    have hlp1 := w_l_le hlp1 hle
    have hlp2 := w_l_le hlp2 hle
    refine kz_aload_n (M := kt_M48) kX9_sequence_c3.1 rfl ?_
    refine kz_ic (M := kt_M48) 1 kX9_sequence_c3.2.1 rfl ?_
    refine kz_cv1 (M := kt_M48) (c := 8) (o := 0) (As := [.int 1]) (rest := []) kX9_sequence_c3.2.2.1 wl_X9_148 wMv_50 rfl (.inl rfl) rfl (Nat.le_trans (Nat.le_of_ble_eq_true rfl) hL) (Nat.le_of_ble_eq_true rfl) (Nat.le_of_ble_eq_true rfl) h (fun v6 w5 hle h => ?_) (fun _ _ _ h => kzx_no rfl h)
    have h := h hle
    have hlp1 := w_l_le hlp1 hle
    have hlp2 := w_l_le hlp2 hle
    refine kz_sti_n (M := kt_M48) [(0, .ref (w_adr E.2.1 8 0)), (1, va_rf (x1)), (2, va_rf (w_p w 14 p2 16))] kX9_sequence_c3.2.2.2.1 (Nat.le_of_ble_eq_true rfl) ⟨⟨rfl, rfl, .inl rfl⟩, ⟨⟨rfl, rfl, .inl rfl⟩, ⟨⟨rfl, rfl, .inr (w_cat (w_p w 14 p2 16))⟩, trivial⟩⟩⟩ rfl ?_
    refine kz_aload_n (M := kt_M48) kX9_sequence_c3.2.2.2.2.1 rfl ?_
    refine kz_aload_nv (M := kt_M48) (x := x1) kX9_sequence_c3.2.2.2.2.2.1 rfl ?_
    refine kz_cv0 (M := kt_M48) (c := 8) (o := 0) (As := [va_rf (x1)]) (rest := []) kX9_sequence_c3.2.2.2.2.2.2.1 wl_X9_239 wMv_15 rfl (.inl rfl) rfl (Nat.le_trans (Nat.le_of_ble_eq_true rfl) hL) (by simp [lg_sl, w_cat, z_ci, z_cr, z_cl, z_cn, kt_M15]) (Nat.le_of_ble_eq_true rfl) h (fun w7 hle h => ?_) (fun _ _ _ h => kzx_no rfl h)
    have h := h hle
    have hlp1 := w_l_le hlp1 hle
    have hlp2 := w_l_le hlp2 hle
    refine kz_aload_n (M := kt_M48) kX9_sequence_c3.2.2.2.2.2.2.2.1 rfl ?_
    refine kz_aload_nv (M := kt_M48) (x := x1) kX9_sequence_c4.1 rfl ?_
    refine kz_nz0 (x := x1) hxp1 ?_
    refine kz_gfp (M := kt_M48) (c := 14) (o := p1) kX9_sequence_c4.2.1 wf_X9_93 (.inr (by exact hlp1)) ?_
    obtain ⟨p9, hxp9, hlp9, h⟩ := h
    refine kz_nz0 (x := w_p w7 14 p1 3) hxp9 ?_
    refine kz_gfp (M := kt_M48) (c := 14) (o := p9) kX9_sequence_c4.2.2.1 wf_X9_93 (.inr (by exact hlp9)) ?_
    refine kz_cv0 (M := kt_M48) (c := 8) (o := 0) (As := [va_rf (w_p w7 14 p9 3)]) (rest := []) kX9_sequence_c4.2.2.2.1 wl_X9_200 wMv_27 rfl (.inl rfl) rfl (Nat.le_trans (Nat.le_of_ble_eq_true rfl) hL) (by simp [lg_sl, w_cat, z_ci, z_cr, z_cl, z_cn, kt_M27]) (Nat.le_of_ble_eq_true rfl) h (fun w10 hle h => ?_) (fun _ _ _ h => kzx_no rfl h)
    have h := h hle
    have hlp1 := w_l_le hlp1 hle
    have hlp2 := w_l_le hlp2 hle
    have hlp9 := w_l_le hlp9 hle
    refine kz_aload_n (M := kt_M48) kX9_sequence_c4.2.2.2.2.1 rfl ?_
    refine kz_aload_nv (M := kt_M48) (x := x1) kX9_sequence_c4.2.2.2.2.2.1 rfl ?_
    refine kz_nz0 (x := x1) hxp1 ?_
    refine kz_gfp (M := kt_M48) (c := 14) (o := p1) kX9_sequence_c4.2.2.2.2.2.2.1 wf_X9_93 (.inr (by exact hlp1)) ?_
    obtain ⟨p12, hxp12, hlp12, h⟩ := h
    refine kz_nz0 (x := w_p w10 14 p1 3) hxp12 ?_
    refine kz_gfp (M := kt_M48) (c := 14) (o := p12) kX9_sequence_c4.2.2.2.2.2.2.2.1 wf_X9_112 (.inr (by exact hlp12)) ?_
    refine kz_cv0 (M := kt_M48) (c := 8) (o := 0) (As := [va_rf (w_p w10 14 p12 4)]) (rest := []) kX9_sequence_c5.1 wl_X9_200 wMv_27 rfl (.inl rfl) rfl (Nat.le_trans (Nat.le_of_ble_eq_true rfl) hL) (by simp [lg_sl, w_cat, z_ci, z_cr, z_cl, z_cn, kt_M27]) (Nat.le_of_ble_eq_true rfl) h (fun w13 hle h => ?_) (fun _ _ _ h => kzx_no rfl h)
    have h := h hle
    have hlp1 := w_l_le hlp1 hle
    have hlp12 := w_l_le hlp12 hle
    have hlp2 := w_l_le hlp2 hle
    have hlp9 := w_l_le hlp9 hle
    refine kz_aload_n (M := kt_M48) kX9_sequence_c5.2.1 rfl ?_
    refine kz_bi (M := kt_M48) 19 kX9_sequence_c5.2.2.1 rfl ?_
    refine kz_aload_nv (M := kt_M48) (x := w_p w 14 p2 16) kX9_sequence_c5.2.2.2.1 rfl ?_
    obtain ⟨p15, hxp15, hlp15, h⟩ := h
    refine kz_nz0 (x := w_p w 14 p2 16) hxp15 ?_
    refine kz_gfi (M := kt_M48) (c := 15) (o := p15) kX9_sequence_c5.2.2.2.2.1 wf_X9_119 (.inr (by exact hlp15)) ?_
    refine kz_iload_n (M := kt_M48) kX9_sequence_c5.2.2.2.2.2.1 rfl ?_
    refine kz_cv0 (M := kt_M48) (c := 8) (o := 0) (As := [.int 19, .int (w_i w13 15 p15 21), .int v6]) (rest := []) kX9_sequence_c5.2.2.2.2.2.2.1 wl_X9_154 wMv_26 rfl (.inl rfl) rfl (Nat.le_trans (Nat.le_of_ble_eq_true rfl) hL) (Nat.le_of_ble_eq_true rfl) (Nat.le_of_ble_eq_true rfl) h (fun w16 hle h => ?_) (fun _ _ _ h => kzx_no rfl h)
    have h := h hle
    have hlp1 := w_l_le hlp1 hle
    have hlp12 := w_l_le hlp12 hle
    have hlp15 := w_l_le hlp15 hle
    have hlp2 := w_l_le hlp2 hle
    have hlp9 := w_l_le hlp9 hle
    refine kz_aload_n (M := kt_M48) kX9_sequence_c5.2.2.2.2.2.2.2.1 rfl ?_
    refine kz_cv1 (M := kt_M48) (c := 8) (o := 0) (As := []) (rest := []) kX9_sequence_c6.1 wl_X9_46 wMv_29 rfl (.inl rfl) rfl (Nat.le_trans (Nat.le_of_ble_eq_true rfl) hL) (Nat.le_of_ble_eq_true rfl) (Nat.le_of_ble_eq_true rfl) h (fun v19 w18 hle h => ?_) (fun _ _ _ h => kzx_no rfl h)
    have h := h hle
    have hlp1 := w_l_le hlp1 hle
    have hlp12 := w_l_le hlp12 hle
    have hlp15 := w_l_le hlp15 hle
    have hlp2 := w_l_le hlp2 hle
    have hlp9 := w_l_le hlp9 hle
    refine kz_sti (M := kt_M48) [(0, .ref (w_adr E.2.1 8 0)), (1, va_rf (x1)), (2, va_rf (w_p w 14 p2 16)), (3, .int v6)] kX9_sequence_c6.2.1 (Nat.le_of_ble_eq_true rfl) ⟨⟨rfl, rfl, .inl rfl⟩, ⟨⟨rfl, rfl, .inl rfl⟩, ⟨⟨rfl, rfl, .inl rfl⟩, ⟨⟨rfl, rfl, .inr rfl⟩, trivial⟩⟩⟩⟩ rfl ?_
    refine kz_aload_n (M := kt_M48) kX9_sequence_c6.2.2.1 rfl ?_
    refine kz_bi (M := kt_M48) 20 kX9_sequence_c6.2.2.2.1 rfl ?_
    refine kz_aload_nv (M := kt_M48) (x := w_p w 14 p2 16) kX9_sequence_c6.2.2.2.2.1 rfl ?_
    refine kz_nz0 (x := w_p w 14 p2 16) hxp15 ?_
    refine kz_gfi (M := kt_M48) (c := 15) (o := p15) kX9_sequence_c6.2.2.2.2.2.1 wf_X9_119 (.inr (by exact hlp15)) ?_
    refine kz_iload_n (M := kt_M48) kX9_sequence_c6.2.2.2.2.2.2.1 rfl ?_
    refine kz_cv0 (M := kt_M48) (c := 8) (o := 0) (As := [.int 20, .int (w_i w18 15 p15 21), .int v6]) (rest := []) kX9_sequence_c6.2.2.2.2.2.2.2.1 wl_X9_154 wMv_26 rfl (.inl rfl) rfl (Nat.le_trans (Nat.le_of_ble_eq_true rfl) hL) (Nat.le_of_ble_eq_true rfl) (Nat.le_of_ble_eq_true rfl) h (fun w20 hle h => ?_) (fun _ _ _ h => kzx_no rfl h)
    have h := h hle
    have hlp1 := w_l_le hlp1 hle
    have hlp12 := w_l_le hlp12 hle
    have hlp15 := w_l_le hlp15 hle
    have hlp2 := w_l_le hlp2 hle
    have hlp9 := w_l_le hlp9 hle
    refine kz_aload_n (M := kt_M48) kX9_sequence_c7.1 rfl ?_
    refine kz_cv1 (M := kt_M48) (c := 8) (o := 0) (As := []) (rest := []) kX9_sequence_c7.2.1 wl_X9_46 wMv_29 rfl (.inl rfl) rfl (Nat.le_trans (Nat.le_of_ble_eq_true rfl) hL) (Nat.le_of_ble_eq_true rfl) (Nat.le_of_ble_eq_true rfl) h (fun v23 w22 hle h => ?_) (fun _ _ _ h => kzx_no rfl h)
    have h := h hle
    have hlp1 := w_l_le hlp1 hle
    have hlp12 := w_l_le hlp12 hle
    have hlp15 := w_l_le hlp15 hle
    have hlp2 := w_l_le hlp2 hle
    have hlp9 := w_l_le hlp9 hle
    refine kz_sti (M := kt_M48) [(0, .ref (w_adr E.2.1 8 0)), (1, va_rf (x1)), (4, .int v19)] kX9_sequence_c7.2.2.1 (Nat.le_of_ble_eq_true rfl) ⟨⟨rfl, rfl, .inl rfl⟩, ⟨⟨rfl, rfl, .inl rfl⟩, ⟨⟨rfl, rfl, .inr rfl⟩, trivial⟩⟩⟩ rfl ?_
    refine kz_aload_n (M := kt_M48) kX9_sequence_c7.2.2.2.1 rfl ?_
    refine kz_gfc (M := kt_M48) (x := 36) (c := 8) (o := 0) kX9_sequence_c7.2.2.2.2.1 wf_X9_12 (.inl rfl) ?_
    refine kz_ic (M := kt_M48) 0 kX9_sequence_c7.2.2.2.2.2.1 rfl ?_
    refine kz_cv0 (M := kt_M48) (c := 9) (o := 0) (As := [.int 0]) (rest := []) kX9_sequence_c7.2.2.2.2.2.2.1 wl_X9_38 wMv_219 rfl (.inl rfl) rfl (Nat.le_trans (Nat.le_of_ble_eq_true rfl) hL) (Nat.le_of_ble_eq_true rfl) (Nat.le_of_ble_eq_true rfl) h (fun w24 hle h => ?_) (fun _ _ _ h => kzx_no rfl h)
    have h := h hle
    have hlp1 := w_l_le hlp1 hle
    have hlp12 := w_l_le hlp12 hle
    have hlp15 := w_l_le hlp15 hle
    have hlp2 := w_l_le hlp2 hle
    have hlp9 := w_l_le hlp9 hle
    refine kz_aload_n (M := kt_M48) kX9_sequence_c7.2.2.2.2.2.2.2.1 rfl ?_
    refine kz_aload_nv (M := kt_M48) (x := x1) kX9_sequence_c8.1 rfl ?_
    refine kz_nz0 (x := x1) hxp1 ?_
    refine kz_gfp (M := kt_M48) (c := 14) (o := p1) kX9_sequence_c8.2.1 wf_X9_112 (.inr (by exact hlp1)) ?_
    refine kz_cv0 (M := kt_M48) (c := 8) (o := 0) (As := [va_rf (w_p w24 14 p1 4)]) (rest := []) kX9_sequence_c8.2.2.1 wl_X9_218 wMv_46 rfl (.inl rfl) rfl (Nat.le_trans (Nat.le_of_ble_eq_true rfl) hL) (by simp [lg_sl, w_cat, z_ci, z_cr, z_cl, z_cn, kt_M46]) (Nat.le_of_ble_eq_true rfl) h (fun w26 hle h => ?_) (fun _ _ _ h => kzx_no rfl h)
    have h := h hle
    have hlp1 := w_l_le hlp1 hle
    have hlp12 := w_l_le hlp12 hle
    have hlp15 := w_l_le hlp15 hle
    have hlp2 := w_l_le hlp2 hle
    have hlp9 := w_l_le hlp9 hle
    refine kz_aload_n (M := kt_M48) kX9_sequence_c8.2.2.2.1 rfl ?_
    refine kz_aload_nv (M := kt_M48) (x := x1) kX9_sequence_c8.2.2.2.2.1 rfl ?_
    refine kz_cv0 (M := kt_M48) (c := 8) (o := 0) (As := [va_rf (x1)]) (rest := []) kX9_sequence_c8.2.2.2.2.2.1 wl_X9_239 wMv_15 rfl (.inl rfl) rfl (Nat.le_trans (Nat.le_of_ble_eq_true rfl) hL) (by simp [lg_sl, w_cat, z_ci, z_cr, z_cl, z_cn, kt_M15]) (Nat.le_of_ble_eq_true rfl) h (fun w28 hle h => ?_) (fun _ _ _ h => kzx_no rfl h)
    have h := h hle
    have hlp1 := w_l_le hlp1 hle
    have hlp12 := w_l_le hlp12 hle
    have hlp15 := w_l_le hlp15 hle
    have hlp2 := w_l_le hlp2 hle
    have hlp9 := w_l_le hlp9 hle
    refine kz_aload_n (M := kt_M48) kX9_sequence_c8.2.2.2.2.2.2.1 rfl ?_
    refine kz_bi (M := kt_M48) 15 kX9_sequence_c8.2.2.2.2.2.2.2.1 rfl ?_
    refine kz_iload (M := kt_M48) kX9_sequence_c9.1 rfl ?_
    refine kz_cv0 (M := kt_M48) (c := 8) (o := 0) (As := [.int 15, .int v19]) (rest := []) kX9_sequence_c9.2.1 wl_X9_42 wMv_25 rfl (.inl rfl) rfl (Nat.le_trans (Nat.le_of_ble_eq_true rfl) hL) (Nat.le_of_ble_eq_true rfl) (Nat.le_of_ble_eq_true rfl) h (fun w30 hle h => ?_) (fun _ _ _ h => kzx_no rfl h)
    have h := h hle
    have hlp1 := w_l_le hlp1 hle
    have hlp12 := w_l_le hlp12 hle
    have hlp15 := w_l_le hlp15 hle
    have hlp2 := w_l_le hlp2 hle
    have hlp9 := w_l_le hlp9 hle
    refine kz_aload_n (M := kt_M48) kX9_sequence_c9.2.2.1 rfl ?_
    refine kz_iload (M := kt_M48) kX9_sequence_c9.2.2.2.1 rfl ?_
    refine kz_cv0 (M := kt_M48) (c := 8) (o := 0) (As := [.int v23]) (rest := []) kX9_sequence_c9.2.2.2.2.1 wl_X9_236 wMv_33 rfl (.inl rfl) rfl (Nat.le_trans (Nat.le_of_ble_eq_true rfl) hL) (Nat.le_of_ble_eq_true rfl) (Nat.le_of_ble_eq_true rfl) h (fun w32 hle h => ?_) (fun _ _ _ h => kzx_no rfl h)
    have h := h hle
    have hlp1 := w_l_le hlp1 hle
    have hlp12 := w_l_le hlp12 hle
    have hlp15 := w_l_le hlp15 hle
    have hlp2 := w_l_le hlp2 hle
    have hlp9 := w_l_le hlp9 hle
    exact kz_ret (M := kt_M48) kX9_sequence_c9.2.2.2.2.2.1 rfl h
  · skip
    refine kz_aload_nv (M := kt_M48) (x := x1) kX9_sequence_c0.2.2.2.1 rfl ?_
    refine kz_nz0 (x := x1) hxp1 ?_
    refine kz_gfp (M := kt_M48) (c := 14) (o := p1) kX9_sequence_c0.2.2.2.2.1 wf_X9_112 (.inr (by exact hlp1)) ?_
    refine kz_stv_n (M := kt_M48) (x := w_p w 14 p1 4) [(0, .ref (w_adr E.2.1 8 0))] kX9_sequence_c0.2.2.2.2.2.1 (Nat.le_of_ble_eq_true rfl) ⟨⟨rfl, rfl, .inl rfl⟩, trivial⟩ rfl ?_
    exact kz_weak [(0, .ref (w_adr E.2.1 8 0)), (2, va_rf (w_p w 14 p1 4))] ⟨rfl, ⟨rfl, trivial⟩⟩ rfl h
def zb_X9_land_p0 (E : zE) (L : Nat) (Q : kx_Rs → wS → Prop) (x1 : Int32) (w : wS) : Prop := zw E (L - 20) kt_M29 [.ref (w_adr E.2.1 8 0)] w (wk1 (fun v2 w1 => wle w w1 → zw E (L - 22) kt_M222 [.ref (w_adr E.2.1 9 0), .int x1, .int v2] w1 (wk0 (fun w3 => wle w1 w3 → Q (.inl none) w3) (fun e w => Q (.inr e) w))) (fun e w => Q (.inr e) w))
theorem zt_X9_land_p0 {E : zE} {L : Nat} {Q : kx_Rs → wS → Prop} {x1 : Int32} {w : wS} (hL : 22 ≤ L) (h : zb_X9_land_p0 E L Q x1 w) : kzE E L kt_M33 0 [(0, .ref (w_adr E.2.1 8 0)), (1, .int x1)] [] w Q := by
  unfold zb_X9_land_p0 at h
  refine kz_aload_n (M := kt_M33) kX9_land_c0.1 rfl ?_
  refine kz_gfc (M := kt_M33) (x := 36) (c := 8) (o := 0) kX9_land_c0.2.1 wf_X9_12 (.inl rfl) ?_
  refine kz_iload_n (M := kt_M33) kX9_land_c0.2.2.1 rfl ?_
  refine kz_aload_n (M := kt_M33) kX9_land_c0.2.2.2.1 rfl ?_
  refine kz_cv1 (M := kt_M33) (c := 8) (o := 0) (As := []) (rest := [.int x1, .ref (w_adr E.2.1 9 0)]) kX9_land_c0.2.2.2.2.1 wl_X9_46 wMv_29 rfl (.inl rfl) rfl (Nat.le_trans (Nat.le_of_ble_eq_true rfl) hL) (Nat.le_of_ble_eq_true rfl) (Nat.le_of_ble_eq_true rfl) h (fun v2 w1 hle h => ?_) (fun _ _ _ h => kzx_no rfl h)
  have h := h hle
  refine kz_cv0 (M := kt_M33) (c := 9) (o := 0) (As := [.int x1, .int v2]) (rest := []) kX9_land_c0.2.2.2.2.2.1 wl_X9_50 wMv_222 rfl (.inl rfl) rfl (Nat.le_trans (Nat.le_of_ble_eq_true rfl) hL) (Nat.le_of_ble_eq_true rfl) (Nat.le_of_ble_eq_true rfl) h (fun w3 hle h => ?_) (fun _ _ _ h => kzx_no rfl h)
  have h := h hle
  exact kz_ret (M := kt_M33) kX9_land_c0.2.2.2.2.2.2.1 rfl h
def zL_X9_parallel_p145 (E : zE) (L : Nat) (Q : kx_Rs → wS → Prop) (x2 : Option Nat) (x4 : Int32) (x5 : Int32) (x6 : Option Nat) (x7 : Option Nat) (w : wS) : Prop := kzE E L kt_M43 145 [(0, .ref (w_adr E.2.1 8 0)), (2, va_rf (x2)), (4, .int x4), (5, .int x5), (6, va_rf (x6)), (7, va_rf (x7))] [] w Q
def zL_X9_parallel_p105 (E : zE) (L : Nat) (Q : kx_Rs → wS → Prop) (x1 : Option Nat) (x2 : Option Nat) (x3 : Int32) (x4 : Int32) (x5 : Int32) (w : wS) : Prop := kzE E L kt_M43 105 [(0, .ref (w_adr E.2.1 8 0)), (1, va_rf (x1)), (2, va_rf (x2)), (3, .int x3), (4, .int x4), (5, .int x5)] [] w Q
def zL_X9_parallel_p32 (E : zE) (L : Nat) (Q : kx_Rs → wS → Prop) (x1 : Option Nat) (x2 : Option Nat) (x3 : Int32) (x4 : Option Nat) (w : wS) : Prop := kzE E L kt_M43 32 [(0, .ref (w_adr E.2.1 8 0)), (1, va_rf (x1)), (2, va_rf (x2)), (3, .int x3), (4, va_rf (x4))] [] w Q
def zb_X9_parallel_p200 (E : zE) (L : Nat) (Q : kx_Rs → wS → Prop) (x2 : Option Nat) (x4 : Int32) (x5 : Int32) (x6 : Option Nat) (x7 : Option Nat) (w : wS) : Prop := zw E (L - 22) kt_M46 [.ref (w_adr E.2.1 8 0), va_rf (x7)] w (wk0 (fun w1 => wle w w1 → zw E (L - 21) kt_M24 [.ref (w_adr E.2.1 8 0), .int 48] w1 (wk0 (fun w3 => wle w1 w3 → (∃ p5, x7 = some p5 ∧ w_l (ws_p w3 8 0 7 x6) E.2.1 14 p5 ∧ zL_X9_parallel_p145 E L Q x2 x4 x5 x6 (w_p w3 14 p5 7) (ws_p w3 8 0 7 x6))) (fun e w => Q (.inr e) w))) (fun e w => Q (.inr e) w))
theorem zt_X9_parallel_p200 {E : zE} {L : Nat} {Q : kx_Rs → wS → Prop} {x2 : Option Nat} {x4 : Int32} {x5 : Int32} {x6 : Option Nat} {x7 : Option Nat} {w : wS} (hL : 23 ≤ L) (h : zb_X9_parallel_p200 E L Q x2 x4 x5 x6 x7 w) : kzE E L kt_M43 200 [(0, .ref (w_adr E.2.1 8 0)), (2, va_rf (x2)), (4, .int x4), (5, .int x5), (6, va_rf (x6)), (7, va_rf (x7))] [] w Q := by
  unfold zb_X9_parallel_p200 at h
  refine kz_aload_n (M := kt_M43) kX9_parallel_c12.2.1 rfl ?_
  refine kz_aloadv (M := kt_M43) (x := x7) kX9_parallel_c12.2.2.1 rfl ?_
  refine kz_cv0 (M := kt_M43) (c := 8) (o := 0) (As := [va_rf (x7)]) (rest := []) kX9_parallel_c12.2.2.2.1 wl_X9_218 wMv_46 rfl (.inl rfl) rfl (Nat.le_trans (Nat.le_of_ble_eq_true rfl) hL) (by simp [lg_sl, w_cat, z_ci, z_cr, z_cl, z_cn, kt_M46]) (Nat.le_of_ble_eq_true rfl) h (fun w1 hle h => ?_) (fun _ _ _ h => kzx_no rfl h)
  have h := h hle
  refine kz_aload_n (M := kt_M43) kX9_parallel_c12.2.2.2.2.1 rfl ?_
  refine kz_bi (M := kt_M43) 48 kX9_parallel_c12.2.2.2.2.2.1 rfl ?_
  refine kz_cv0 (M := kt_M43) (c := 8) (o := 0) (As := [.int 48]) (rest := []) kX9_parallel_c12.2.2.2.2.2.2.1 wl_X9_137 wMv_24 rfl (.inl rfl) rfl (Nat.le_trans (Nat.le_of_ble_eq_true rfl) hL) (Nat.le_of_ble_eq_true rfl) (Nat.le_of_ble_eq_true rfl) h (fun w3 hle h => ?_) (fun _ _ _ h => kzx_no rfl h)
  have h := h hle
  refine kz_aload_n (M := kt_M43) kX9_parallel_c12.2.2.2.2.2.2.2.1 rfl ?_
  refine kz_aloadv (M := kt_M43) (x := x6) kX9_parallel_c13.1 rfl ?_
  refine kz_pfp (M := kt_M43) (n := x6) (c := 8) (o := 0) kX9_parallel_c13.2.1 wq_X9_88 (.inl rfl) ?_
  refine kz_aloadv (M := kt_M43) (x := x7) kX9_parallel_c13.2.2.1 rfl ?_
  obtain ⟨p5, hxp5, hlp5, h⟩ := h
  refine kz_nz0 (x := x7) hxp5 ?_
  refine kz_gfpR (M := kt_M43) (c := 14) (o := p5) (w_p w3 14 p5 7) kX9_parallel_c13.2.2.2.1 wf_X9_129 (.inr (by exact hlp5)) (rd_p_pc rfl) ?_
  refine kz_stv (M := kt_M43) (x := w_p w3 14 p5 7) [(0, .ref (w_adr E.2.1 8 0)), (2, va_rf (x2)), (4, .int x4), (5, .int x5), (6, va_rf (x6))] kX9_parallel_c13.2.2.2.2.1 (Nat.le_of_ble_eq_true rfl) ⟨⟨rfl, rfl, .inl rfl⟩, ⟨⟨rfl, rfl, .inl rfl⟩, ⟨⟨rfl, rfl, .inl rfl⟩, ⟨⟨rfl, rfl, .inl rfl⟩, ⟨⟨rfl, rfl, .inr (w_cat (x6))⟩, trivial⟩⟩⟩⟩⟩ rfl ?_
  refine kz_goto (M := kt_M43) kX9_parallel_c13.2.2.2.2.2.1 (t := 145) rfl ?_
  exact kz_weak [(0, .ref (w_adr E.2.1 8 0)), (2, va_rf (x2)), (4, .int x4), (5, .int x5), (6, va_rf (x6)), (7, va_rf (w_p w3 14 p5 7))] ⟨rfl, ⟨rfl, ⟨rfl, ⟨rfl, ⟨rfl, ⟨rfl, trivial⟩⟩⟩⟩⟩⟩ rfl h
def zb_X9_parallel_p145 (E : zE) (L : Nat) (Q : kx_Rs → wS → Prop) (x2 : Option Nat) (x4 : Int32) (x5 : Int32) (x6 : Option Nat) (x7 : Option Nat) (w : wS) : Prop := (if x7 = none then zw E (L - 21) kt_M33 [.ref (w_adr E.2.1 8 0), .int x5] w (wk0 (fun w1 => wle w w1 → Q (.inl none) w1) (fun e w => Q (.inr e) w)) else zw E (L - 23) kt_M38 [.ref (w_adr E.2.1 8 0), va_rf (x6)] w (wkr (fun v4 w3 => wle w w3 → (∃ p5, v4 = some p5 ∧ w_l (ws_p w3 8 0 7 v4) E.2.1 16 p5 ∧ zw E (L - 22) kt_M222 [.ref (w_adr E.2.1 9 0), .int x4, .int (w_i w3 16 p5 4)] (ws_p w3 8 0 7 v4) (wk0 (fun w6 => wle (ws_p w3 8 0 7 v4) w6 → zw E (L - 20) kt_M29 [.ref (w_adr E.2.1 8 0)] w6 (wk1 (fun v9 w8 => wle w6 w8 → (∃ p10, w_p w6 8 0 7 = some p10 ∧ w_l w8 E.2.1 16 p10 ∧ (if x2 = none then zb_X9_parallel_p200 E L Q x2 (x4 + 1) x5 x6 x7 (ws_i w8 16 p10 3 v9) else zw E (L - 22) kt_M30 [.ref (w_adr E.2.1 8 0), va_rf (x2), .int 1] (ws_i w8 16 p10 3 v9) (wk0 (fun w11 => wle (ws_i w8 16 p10 3 v9) w11 → zb_X9_parallel_p200 E L Q x2 (x4 + 1) x5 x6 x7 w11) (fun e w => Q (.inr e) w))))) (fun e w => Q (.inr e) w))) (fun e w => Q (.inr e) w)))) (fun e w => Q (.inr e) w)))
theorem zt_X9_parallel_p145 {E : zE} {L : Nat} {Q : kx_Rs → wS → Prop} {x2 : Option Nat} {x4 : Int32} {x5 : Int32} {x6 : Option Nat} {x7 : Option Nat} {w : wS} (hL : 23 ≤ L) (h : zb_X9_parallel_p145 E L Q x2 x4 x5 x6 x7 w) : kzE E L kt_M43 145 [(0, .ref (w_adr E.2.1 8 0)), (2, va_rf (x2)), (4, .int x4), (5, .int x5), (6, va_rf (x6)), (7, va_rf (x7))] [] w Q := by
  unfold zb_X9_parallel_p145 at h
  refine kz_aloadv (M := kt_M43) (x := x7) kX9_parallel_c8.2.2.2.2.2.2.2.1 rfl ?_
  refine kz_ifnull (M := kt_M43) (x := x7) kX9_parallel_c9.1 (t := 228) rfl h (fun h => ?_) (fun h => ?_)
  · skip
    refine kz_aload_n (M := kt_M43) kX9_parallel_c13.2.2.2.2.2.2.1 rfl ?_
    refine kz_iload (M := kt_M43) kX9_parallel_c13.2.2.2.2.2.2.2.1 rfl ?_
    refine kz_cv0 (M := kt_M43) (c := 8) (o := 0) (As := [.int x5]) (rest := []) kX9_parallel_c14.1 wl_X9_236 wMv_33 rfl (.inl rfl) rfl (Nat.le_trans (Nat.le_of_ble_eq_true rfl) hL) (Nat.le_of_ble_eq_true rfl) (Nat.le_of_ble_eq_true rfl) h (fun w1 hle h => ?_) (fun _ _ _ h => kzx_no rfl h)
    have h := h hle
    exact kz_ret (M := kt_M43) kX9_parallel_c14.2.1 rfl h
  · skip
    refine kz_aload_n (M := kt_M43) kX9_parallel_c9.2.1 rfl ?_
    refine kz_aload_n (M := kt_M43) kX9_parallel_c9.2.2.1 rfl ?_
    refine kz_aloadv (M := kt_M43) (x := x6) kX9_parallel_c9.2.2.2.1 rfl ?_
    refine kz_cvr (M := kt_M43) (c := 8) (o := 0) (As := [va_rf (x6)]) (rest := [.ref (w_adr E.2.1 8 0)]) kX9_parallel_c9.2.2.2.2.1 wl_X9_85 wMv_38 rfl (.inl rfl) rfl (Nat.le_trans (Nat.le_of_ble_eq_true rfl) hL) (by simp [lg_sl, w_cat, z_ci, z_cr, z_cl, z_cn, kt_M38]) (Nat.le_of_ble_eq_true rfl) h (fun v4 w3 hle h => ?_) (fun _ _ _ h => kzx_no rfl h)
    have h := h hle
    refine kz_pfp (M := kt_M43) (n := v4) (c := 8) (o := 0) kX9_parallel_c9.2.2.2.2.2.1 wq_X9_88 (.inl rfl) ?_
    refine kz_aload_n (M := kt_M43) kX9_parallel_c9.2.2.2.2.2.2.1 rfl ?_
    refine kz_gfc (M := kt_M43) (x := 36) (c := 8) (o := 0) kX9_parallel_c9.2.2.2.2.2.2.2.1 wf_X9_12 (.inl rfl) ?_
    refine kz_iload (M := kt_M43) kX9_parallel_c10.1 rfl ?_
    refine kz_inc (M := kt_M43) [(0, .ref (w_adr E.2.1 8 0)), (2, va_rf (x2)), (5, .int x5), (6, va_rf (x6)), (7, va_rf (x7))] kX9_parallel_c10.2.1 rfl (Nat.le_of_ble_eq_true rfl) ⟨⟨rfl, rfl, .inl rfl⟩, ⟨⟨rfl, rfl, .inl rfl⟩, ⟨⟨rfl, rfl, .inl rfl⟩, ⟨⟨rfl, rfl, .inl rfl⟩, ⟨⟨rfl, rfl, .inl rfl⟩, trivial⟩⟩⟩⟩⟩ rfl ?_
    refine kz_aload_n (M := kt_M43) kX9_parallel_c10.2.2.1 rfl ?_
    refine kz_gfpR (M := kt_M43) (c := 8) (o := 0) v4 kX9_parallel_c10.2.2.2.1 wf_X9_88 (.inl rfl) rd_p_e ?_
    obtain ⟨p5, hxp5, hlp5, h⟩ := h
    refine kz_nz0 (x := v4) hxp5 ?_
    refine kz_gfiR (M := kt_M43) (c := 16) (o := p5) (w_i w3 16 p5 4) kX9_parallel_c10.2.2.2.2.1 wf_X9_63 (.inr (by exact hlp5)) rd_i_p ?_
    refine kz_cv0 (M := kt_M43) (c := 9) (o := 0) (As := [.int x4, .int (w_i w3 16 p5 4)]) (rest := []) kX9_parallel_c10.2.2.2.2.2.1 wl_X9_50 wMv_222 rfl (.inl rfl) rfl (Nat.le_trans (Nat.le_of_ble_eq_true rfl) hL) (Nat.le_of_ble_eq_true rfl) (Nat.le_of_ble_eq_true rfl) h (fun w6 hle h => ?_) (fun _ _ _ h => kzx_no rfl h)
    have h := h hle
    have hlp5 := w_l_le hlp5 hle
    refine kz_aload_n (M := kt_M43) kX9_parallel_c10.2.2.2.2.2.2.1 rfl ?_
    refine kz_gfp (M := kt_M43) (c := 8) (o := 0) kX9_parallel_c10.2.2.2.2.2.2.2.1 wf_X9_88 (.inl rfl) ?_
    refine kz_aload_n (M := kt_M43) kX9_parallel_c11.1 rfl ?_
    refine kz_cv1 (M := kt_M43) (c := 8) (o := 0) (As := []) (rest := [va_rf (w_p w6 8 0 7)]) kX9_parallel_c11.2.1 wl_X9_46 wMv_29 rfl (.inl rfl) rfl (Nat.le_trans (Nat.le_of_ble_eq_true rfl) hL) (Nat.le_of_ble_eq_true rfl) (by simp [kx_cat, w_cat, z_ci, z_cr, z_cl, z_cn]) h (fun v9 w8 hle h => ?_) (fun _ _ _ h => kzx_no rfl h)
    have h := h hle
    have hlp5 := w_l_le hlp5 hle
    obtain ⟨p10, hxp10, hlp10, h⟩ := h
    refine kz_nz1 (x := w_p w6 8 0 7) hxp10 ?_
    refine kz_pfi (M := kt_M43) (c := 16) (o := p10) kX9_parallel_c11.2.2.1 wq_X9_91 (.inr (by exact hlp10)) ?_
    refine kz_aload_nv (M := kt_M43) (x := x2) kX9_parallel_c11.2.2.2.1 rfl ?_
    refine kz_ifnull (M := kt_M43) (x := x2) kX9_parallel_c11.2.2.2.2.1 (t := 200) rfl h (fun h => ?_) (fun h => ?_)
    · skip
      exact kz_weak [(0, .ref (w_adr E.2.1 8 0)), (2, va_rf (x2)), (4, .int (x4 + 1)), (5, .int x5), (6, va_rf (x6)), (7, va_rf (x7))] ⟨rfl, ⟨rfl, ⟨rfl, ⟨rfl, ⟨rfl, ⟨rfl, trivial⟩⟩⟩⟩⟩⟩ rfl (zt_X9_parallel_p200 hL  h)
    · skip
      refine kz_aload_n (M := kt_M43) kX9_parallel_c11.2.2.2.2.2.1 rfl ?_
      refine kz_aload_nv (M := kt_M43) (x := x2) kX9_parallel_c11.2.2.2.2.2.2.1 rfl ?_
      refine kz_ic (M := kt_M43) 1 kX9_parallel_c11.2.2.2.2.2.2.2.1 rfl ?_
      refine kz_cv0 (M := kt_M43) (c := 8) (o := 0) (As := [va_rf (x2), .int 1]) (rest := []) kX9_parallel_c12.1 wl_X9_169 wMv_30 rfl (.inl rfl) rfl (Nat.le_trans (Nat.le_of_ble_eq_true rfl) hL) (by simp [lg_sl, w_cat, z_ci, z_cr, z_cl, z_cn, kt_M30]) (Nat.le_of_ble_eq_true rfl) h (fun w11 hle h => ?_) (fun _ _ _ h => kzx_no rfl h)
      have h := h hle
      have hlp10 := w_l_le hlp10 hle
      have hlp5 := w_l_le hlp5 hle
      exact kz_weak [(0, .ref (w_adr E.2.1 8 0)), (2, va_rf (x2)), (4, .int (x4 + 1)), (5, .int x5), (6, va_rf (x6)), (7, va_rf (x7))] ⟨rfl, ⟨rfl, ⟨rfl, ⟨rfl, ⟨rfl, ⟨rfl, trivial⟩⟩⟩⟩⟩⟩ rfl (zt_X9_parallel_p200 hL  h)
def zb_X9_parallel_p105 (E : zE) (L : Nat) (Q : kx_Rs → wS → Prop) (x1 : Option Nat) (x2 : Option Nat) (x3 : Int32) (x4 : Int32) (x5 : Int32) (w : wS) : Prop := (if x3 ≤ x5 then zw E (L - 21) kt_M32 [.ref (w_adr E.2.1 8 0), .int 15] w (wk1 (fun v2 w1 => wle w w1 → (∃ p3, x1 = some p3 ∧ w_l w1 E.2.1 14 p3 ∧ zL_X9_parallel_p145 E L Q x2 x4 v2 (w_p w1 8 0 7) (w_p w1 14 p3 4) w1)) (fun e w => Q (.inr e) w)) else zw E (L - 22) kt_M219 [.ref (w_adr E.2.1 9 0), .int 0] w (wk0 (fun w4 => wle w w4 → zL_X9_parallel_p105 E L Q x1 x2 x3 x4 (x5 + 1) w4) (fun e w => Q (.inr e) w)))
theorem zt_X9_parallel_p105 {E : zE} {L : Nat} {Q : kx_Rs → wS → Prop} {x1 : Option Nat} {x2 : Option Nat} {x3 : Int32} {x4 : Int32} {x5 : Int32} {w : wS} (hL : 23 ≤ L) (h : zb_X9_parallel_p105 E L Q x1 x2 x3 x4 x5 w) : kzE E L kt_M43 105 [(0, .ref (w_adr E.2.1 8 0)), (1, va_rf (x1)), (2, va_rf (x2)), (3, .int x3), (4, .int x4), (5, .int x5)] [] w Q := by
  unfold zb_X9_parallel_p105 at h
  refine kz_iload (M := kt_M43) kX9_parallel_c6.2.2.2.2.1 rfl ?_
  refine kz_iload_n (M := kt_M43) kX9_parallel_c6.2.2.2.2.2.1 rfl ?_
  refine kz_icmp_ge (M := kt_M43) kX9_parallel_c6.2.2.2.2.2.2.1 (t := 125) rfl h (fun h => ?_) (fun h => ?_)
  · skip
    refine kz_aload_n (M := kt_M43) kX9_parallel_c7.2.2.2.2.2.1 rfl ?_
    refine kz_bi (M := kt_M43) 15 kX9_parallel_c7.2.2.2.2.2.2.1 rfl ?_
    refine kz_cv1 (M := kt_M43) (c := 8) (o := 0) (As := [.int 15]) (rest := []) kX9_parallel_c7.2.2.2.2.2.2.2.1 wl_X9_209 wMv_32 rfl (.inl rfl) rfl (Nat.le_trans (Nat.le_of_ble_eq_true rfl) hL) (Nat.le_of_ble_eq_true rfl) (Nat.le_of_ble_eq_true rfl) h (fun v2 w1 hle h => ?_) (fun _ _ _ h => kzx_no rfl h)
    have h := h hle
    refine kz_sti (M := kt_M43) [(0, .ref (w_adr E.2.1 8 0)), (1, va_rf (x1)), (2, va_rf (x2)), (4, .int x4)] kX9_parallel_c8.1 (Nat.le_of_ble_eq_true rfl) ⟨⟨rfl, rfl, .inl rfl⟩, ⟨⟨rfl, rfl, .inl rfl⟩, ⟨⟨rfl, rfl, .inl rfl⟩, ⟨⟨rfl, rfl, .inr rfl⟩, trivial⟩⟩⟩⟩ rfl ?_
    refine kz_aload_n (M := kt_M43) kX9_parallel_c8.2.1 rfl ?_
    refine kz_gfp (M := kt_M43) (c := 8) (o := 0) kX9_parallel_c8.2.2.1 wf_X9_88 (.inl rfl) ?_
    refine kz_stv (M := kt_M43) (x := w_p w1 8 0 7) [(0, .ref (w_adr E.2.1 8 0)), (1, va_rf (x1)), (2, va_rf (x2)), (4, .int x4), (5, .int v2)] kX9_parallel_c8.2.2.2.1 (Nat.le_of_ble_eq_true rfl) ⟨⟨rfl, rfl, .inl rfl⟩, ⟨⟨rfl, rfl, .inl rfl⟩, ⟨⟨rfl, rfl, .inl rfl⟩, ⟨⟨rfl, rfl, .inl rfl⟩, ⟨⟨rfl, rfl, .inr rfl⟩, trivial⟩⟩⟩⟩⟩ rfl ?_
    refine kz_aload_nv (M := kt_M43) (x := x1) kX9_parallel_c8.2.2.2.2.1 rfl ?_
    obtain ⟨p3, hxp3, hlp3, h⟩ := h
    refine kz_nz0 (x := x1) hxp3 ?_
    refine kz_gfp (M := kt_M43) (c := 14) (o := p3) kX9_parallel_c8.2.2.2.2.2.1 wf_X9_112 (.inr (by exact hlp3)) ?_
    refine kz_stv (M := kt_M43) (x := w_p w1 14 p3 4) [(0, .ref (w_adr E.2.1 8 0)), (2, va_rf (x2)), (4, .int x4), (5, .int v2), (6, va_rf (w_p w1 8 0 7))] kX9_parallel_c8.2.2.2.2.2.2.1 (Nat.le_of_ble_eq_true rfl) ⟨⟨rfl, rfl, .inl rfl⟩, ⟨⟨rfl, rfl, .inl rfl⟩, ⟨⟨rfl, rfl, .inl rfl⟩, ⟨⟨rfl, rfl, .inl rfl⟩, ⟨⟨rfl, rfl, .inr (w_cat (w_p w1 8 0 7))⟩, trivial⟩⟩⟩⟩⟩ rfl ?_
    exact kz_weak [(0, .ref (w_adr E.2.1 8 0)), (2, va_rf (x2)), (4, .int x4), (5, .int v2), (6, va_rf (w_p w1 8 0 7)), (7, va_rf (w_p w1 14 p3 4))] ⟨rfl, ⟨rfl, ⟨rfl, ⟨rfl, ⟨rfl, ⟨rfl, trivial⟩⟩⟩⟩⟩⟩ rfl h
  · skip
    refine kz_aload_n (M := kt_M43) kX9_parallel_c6.2.2.2.2.2.2.2.1 rfl ?_
    refine kz_gfc (M := kt_M43) (x := 36) (c := 8) (o := 0) kX9_parallel_c7.1 wf_X9_12 (.inl rfl) ?_
    refine kz_ic (M := kt_M43) 0 kX9_parallel_c7.2.1 rfl ?_
    refine kz_cv0 (M := kt_M43) (c := 9) (o := 0) (As := [.int 0]) (rest := []) kX9_parallel_c7.2.2.1 wl_X9_38 wMv_219 rfl (.inl rfl) rfl (Nat.le_trans (Nat.le_of_ble_eq_true rfl) hL) (Nat.le_of_ble_eq_true rfl) (Nat.le_of_ble_eq_true rfl) h (fun w4 hle h => ?_) (fun _ _ _ h => kzx_no rfl h)
    have h := h hle
    refine kz_inc (M := kt_M43) [(0, .ref (w_adr E.2.1 8 0)), (1, va_rf (x1)), (2, va_rf (x2)), (3, .int x3), (4, .int x4)] kX9_parallel_c7.2.2.2.1 rfl (Nat.le_of_ble_eq_true rfl) ⟨⟨rfl, rfl, .inl rfl⟩, ⟨⟨rfl, rfl, .inl rfl⟩, ⟨⟨rfl, rfl, .inl rfl⟩, ⟨⟨rfl, rfl, .inl rfl⟩, ⟨⟨rfl, rfl, .inr rfl⟩, trivial⟩⟩⟩⟩⟩ rfl ?_
    refine kz_goto (M := kt_M43) kX9_parallel_c7.2.2.2.2.1 (t := 105) rfl ?_
    exact kz_weak [(0, .ref (w_adr E.2.1 8 0)), (1, va_rf (x1)), (2, va_rf (x2)), (3, .int x3), (4, .int x4), (5, .int (x5 + 1))] ⟨rfl, ⟨rfl, ⟨rfl, ⟨rfl, ⟨rfl, ⟨rfl, trivial⟩⟩⟩⟩⟩⟩ rfl h
def zb_X9_parallel_p93 (E : zE) (L : Nat) (Q : kx_Rs → wS → Prop) (x1 : Option Nat) (x2 : Option Nat) (x3 : Int32) (y0 : Int32) (w : wS) : Prop := zw E (L - 22) kt_M219 [.ref (w_adr E.2.1 9 0), .int y0] w (wk0 (fun w1 => wle w w1 → zw E (L - 20) kt_M29 [.ref (w_adr E.2.1 8 0)] w1 (wk1 (fun v4 w3 => wle w1 w3 → zL_X9_parallel_p105 E L Q x1 x2 x3 v4 0 w3) (fun e w => Q (.inr e) w))) (fun e w => Q (.inr e) w))
theorem zt_X9_parallel_p93 {E : zE} {L : Nat} {Q : kx_Rs → wS → Prop} {x1 : Option Nat} {x2 : Option Nat} {x3 : Int32} {y0 : Int32} {w : wS} (hL : 23 ≤ L) (h : zb_X9_parallel_p93 E L Q x1 x2 x3 y0 w) : kzE E L kt_M43 93 [(0, .ref (w_adr E.2.1 8 0)), (1, va_rf (x1)), (2, va_rf (x2)), (3, .int x3)] [.int y0, .ref (w_adr E.2.1 9 0)] w Q := by
  unfold zb_X9_parallel_p93 at h
  refine kz_cv0 (M := kt_M43) (c := 9) (o := 0) (As := [.int y0]) (rest := []) kX9_parallel_c5.2.2.2.2.2.2.1 wl_X9_38 wMv_219 rfl (.inl rfl) rfl (Nat.le_trans (Nat.le_of_ble_eq_true rfl) hL) (Nat.le_of_ble_eq_true rfl) (Nat.le_of_ble_eq_true rfl) h (fun w1 hle h => ?_) (fun _ _ _ h => kzx_no rfl h)
  have h := h hle
  refine kz_aload_n (M := kt_M43) kX9_parallel_c5.2.2.2.2.2.2.2.1 rfl ?_
  refine kz_cv1 (M := kt_M43) (c := 8) (o := 0) (As := []) (rest := []) kX9_parallel_c6.1 wl_X9_46 wMv_29 rfl (.inl rfl) rfl (Nat.le_trans (Nat.le_of_ble_eq_true rfl) hL) (Nat.le_of_ble_eq_true rfl) (Nat.le_of_ble_eq_true rfl) h (fun v4 w3 hle h => ?_) (fun _ _ _ h => kzx_no rfl h)
  have h := h hle
  refine kz_sti (M := kt_M43) [(0, .ref (w_adr E.2.1 8 0)), (1, va_rf (x1)), (2, va_rf (x2)), (3, .int x3)] kX9_parallel_c6.2.1 (Nat.le_of_ble_eq_true rfl) ⟨⟨rfl, rfl, .inl rfl⟩, ⟨⟨rfl, rfl, .inl rfl⟩, ⟨⟨rfl, rfl, .inl rfl⟩, ⟨⟨rfl, rfl, .inr rfl⟩, trivial⟩⟩⟩⟩ rfl ?_
  refine kz_ic (M := kt_M43) 0 kX9_parallel_c6.2.2.1 rfl ?_
  refine kz_sti (M := kt_M43) [(0, .ref (w_adr E.2.1 8 0)), (1, va_rf (x1)), (2, va_rf (x2)), (3, .int x3), (4, .int v4)] kX9_parallel_c6.2.2.2.1 (Nat.le_of_ble_eq_true rfl) ⟨⟨rfl, rfl, .inl rfl⟩, ⟨⟨rfl, rfl, .inl rfl⟩, ⟨⟨rfl, rfl, .inl rfl⟩, ⟨⟨rfl, rfl, .inl rfl⟩, ⟨⟨rfl, rfl, .inr rfl⟩, trivial⟩⟩⟩⟩⟩ rfl ?_
  exact kz_weak [(0, .ref (w_adr E.2.1 8 0)), (1, va_rf (x1)), (2, va_rf (x2)), (3, .int x3), (4, .int v4), (5, .int 0)] ⟨rfl, ⟨rfl, ⟨rfl, ⟨rfl, ⟨rfl, ⟨rfl, trivial⟩⟩⟩⟩⟩⟩ rfl h
def zb_X9_parallel_p74 (E : zE) (L : Nat) (Q : kx_Rs → wS → Prop) (x1 : Option Nat) (x2 : Option Nat) (x3 : Int32) (y0 : Int32) (y1 : Int32) (y2 : Int32) (w : wS) : Prop := zw E (L - 23) kt_M26 [.ref (w_adr E.2.1 8 0), .int y2, .int y1, .int y0] w (wk0 (fun w1 => wle w w1 → (if ¬ x2 = none then (∃ p3, x2 = some p3 ∧ w_l w1 E.2.1 15 p3 ∧ zb_X9_parallel_p93 E L Q x1 x2 x3 (w_i w1 15 p3 22) w1) else zb_X9_parallel_p93 E L Q x1 x2 x3 0 w1)) (fun e w => Q (.inr e) w))
theorem zt_X9_parallel_p74 {E : zE} {L : Nat} {Q : kx_Rs → wS → Prop} {x1 : Option Nat} {x2 : Option Nat} {x3 : Int32} {y0 : Int32} {y1 : Int32} {y2 : Int32} {w : wS} (hL : 23 ≤ L) (h : zb_X9_parallel_p74 E L Q x1 x2 x3 y0 y1 y2 w) : kzE E L kt_M43 74 [(0, .ref (w_adr E.2.1 8 0)), (1, va_rf (x1)), (2, va_rf (x2)), (3, .int x3)] [.int y0, .int y1, .int y2, .ref (w_adr E.2.1 8 0)] w Q := by
  unfold zb_X9_parallel_p74 at h
  refine kz_cv0 (M := kt_M43) (c := 8) (o := 0) (As := [.int y2, .int y1, .int y0]) (rest := []) kX9_parallel_c4.2.2.2.2.2.1 wl_X9_154 wMv_26 rfl (.inl rfl) rfl (Nat.le_trans (Nat.le_of_ble_eq_true rfl) hL) (Nat.le_of_ble_eq_true rfl) (Nat.le_of_ble_eq_true rfl) h (fun w1 hle h => ?_) (fun _ _ _ h => kzx_no rfl h)
  have h := h hle
  refine kz_aload_n (M := kt_M43) kX9_parallel_c4.2.2.2.2.2.2.1 rfl ?_
  refine kz_gfc (M := kt_M43) (x := 36) (c := 8) (o := 0) kX9_parallel_c4.2.2.2.2.2.2.2.1 wf_X9_12 (.inl rfl) ?_
  refine kz_aload_nv (M := kt_M43) (x := x2) kX9_parallel_c5.1 rfl ?_
  refine kz_ifnonnull (M := kt_M43) (x := x2) kX9_parallel_c5.2.1 (t := 89) rfl h (fun h => ?_) (fun h => ?_)
  · skip
    refine kz_aload_nv (M := kt_M43) (x := x2) kX9_parallel_c5.2.2.2.2.1 rfl ?_
    obtain ⟨p3, hxp3, hlp3, h⟩ := h
    refine kz_nz0 (x := x2) hxp3 ?_
    refine kz_gfi (M := kt_M43) (c := 15) (o := p3) kX9_parallel_c5.2.2.2.2.2.1 wf_X9_309 (.inr (by exact hlp3)) ?_
    exact kz_weak [(0, .ref (w_adr E.2.1 8 0)), (1, va_rf (x1)), (2, va_rf (x2)), (3, .int x3)] ⟨rfl, ⟨rfl, ⟨rfl, ⟨rfl, trivial⟩⟩⟩⟩ rfl (zt_X9_parallel_p93 hL  h)
  · skip
    refine kz_ic (M := kt_M43) 0 kX9_parallel_c5.2.2.1 rfl ?_
    refine kz_goto (M := kt_M43) kX9_parallel_c5.2.2.2.1 (t := 93) rfl ?_
    exact kz_weak [(0, .ref (w_adr E.2.1 8 0)), (1, va_rf (x1)), (2, va_rf (x2)), (3, .int x3)] ⟨rfl, ⟨rfl, ⟨rfl, ⟨rfl, trivial⟩⟩⟩⟩ rfl (zt_X9_parallel_p93 hL  h)
def zb_X9_parallel_p65 (E : zE) (L : Nat) (Q : kx_Rs → wS → Prop) (x1 : Option Nat) (x2 : Option Nat) (x3 : Int32) (y0 : Int32) (y1 : Int32) (w : wS) : Prop := (if ¬ x2 = none then zb_X9_parallel_p74 E L Q x1 x2 x3 1 y0 y1 w else zb_X9_parallel_p74 E L Q x1 x2 x3 0 y0 y1 w)
theorem zt_X9_parallel_p65 {E : zE} {L : Nat} {Q : kx_Rs → wS → Prop} {x1 : Option Nat} {x2 : Option Nat} {x3 : Int32} {y0 : Int32} {y1 : Int32} {w : wS} (hL : 23 ≤ L) (h : zb_X9_parallel_p65 E L Q x1 x2 x3 y0 y1 w) : kzE E L kt_M43 65 [(0, .ref (w_adr E.2.1 8 0)), (1, va_rf (x1)), (2, va_rf (x2)), (3, .int x3)] [.int y0, .int y1, .ref (w_adr E.2.1 8 0)] w Q := by
  unfold zb_X9_parallel_p65 at h
  refine kz_aload_nv (M := kt_M43) (x := x2) kX9_parallel_c4.1 rfl ?_
  refine kz_ifnonnull (M := kt_M43) (x := x2) kX9_parallel_c4.2.1 (t := 73) rfl h (fun h => ?_) (fun h => ?_)
  · skip
    refine kz_ic (M := kt_M43) 1 kX9_parallel_c4.2.2.2.2.1 rfl ?_
    exact kz_weak [(0, .ref (w_adr E.2.1 8 0)), (1, va_rf (x1)), (2, va_rf (x2)), (3, .int x3)] ⟨rfl, ⟨rfl, ⟨rfl, ⟨rfl, trivial⟩⟩⟩⟩ rfl (zt_X9_parallel_p74 hL  h)
  · skip
    refine kz_ic (M := kt_M43) 0 kX9_parallel_c4.2.2.1 rfl ?_
    refine kz_goto (M := kt_M43) kX9_parallel_c4.2.2.2.1 (t := 74) rfl ?_
    exact kz_weak [(0, .ref (w_adr E.2.1 8 0)), (1, va_rf (x1)), (2, va_rf (x2)), (3, .int x3)] ⟨rfl, ⟨rfl, ⟨rfl, ⟨rfl, trivial⟩⟩⟩⟩ rfl (zt_X9_parallel_p74 hL  h)
def zb_X9_parallel_p32 (E : zE) (L : Nat) (Q : kx_Rs → wS → Prop) (x1 : Option Nat) (x2 : Option Nat) (x3 : Int32) (x4 : Option Nat) (w : wS) : Prop := (if x4 = none then (if ¬ x2 = none then (∃ p1, x2 = some p1 ∧ w_l w E.2.1 15 p1 ∧ zb_X9_parallel_p65 E L Q x1 x2 x3 (w_i w 15 p1 23) 47 w) else zb_X9_parallel_p65 E L Q x1 x2 x3 x3 47 w) else (∃ p2, x4 = some p2 ∧ w_l w E.2.1 14 p2 ∧ zL_X9_parallel_p32 E L Q x1 x2 (x3 + 1) (w_p w 14 p2 7) w))
theorem zt_X9_parallel_p32 {E : zE} {L : Nat} {Q : kx_Rs → wS → Prop} {x1 : Option Nat} {x2 : Option Nat} {x3 : Int32} {x4 : Option Nat} {w : wS} (hL : 23 ≤ L) (h : zb_X9_parallel_p32 E L Q x1 x2 x3 x4 w) : kzE E L kt_M43 32 [(0, .ref (w_adr E.2.1 8 0)), (1, va_rf (x1)), (2, va_rf (x2)), (3, .int x3), (4, va_rf (x4))] [] w Q := by
  unfold zb_X9_parallel_p32 at h
  refine kz_aloadv (M := kt_M43) (x := x4) kX9_parallel_c2.2.1 rfl ?_
  refine kz_ifnull (M := kt_M43) (x := x4) kX9_parallel_c2.2.2.1 (t := 50) rfl h (fun h => ?_) (fun h => ?_)
  · skip
    refine kz_aload_n (M := kt_M43) kX9_parallel_c3.1 rfl ?_
    refine kz_bi (M := kt_M43) 47 kX9_parallel_c3.2.1 rfl ?_
    refine kz_aload_nv (M := kt_M43) (x := x2) kX9_parallel_c3.2.2.1 rfl ?_
    refine kz_ifnonnull (M := kt_M43) (x := x2) kX9_parallel_c3.2.2.2.1 (t := 61) rfl h (fun h => ?_) (fun h => ?_)
    · skip
      refine kz_aload_nv (M := kt_M43) (x := x2) kX9_parallel_c3.2.2.2.2.2.2.1 rfl ?_
      obtain ⟨p1, hxp1, hlp1, h⟩ := h
      refine kz_nz0 (x := x2) hxp1 ?_
      refine kz_gfi (M := kt_M43) (c := 15) (o := p1) kX9_parallel_c3.2.2.2.2.2.2.2.1 wf_X9_306 (.inr (by exact hlp1)) ?_
      exact kz_weak [(0, .ref (w_adr E.2.1 8 0)), (1, va_rf (x1)), (2, va_rf (x2)), (3, .int x3)] ⟨rfl, ⟨rfl, ⟨rfl, ⟨rfl, trivial⟩⟩⟩⟩ rfl (zt_X9_parallel_p65 hL  h)
    · skip
      refine kz_iload_n (M := kt_M43) kX9_parallel_c3.2.2.2.2.1 rfl ?_
      refine kz_goto (M := kt_M43) kX9_parallel_c3.2.2.2.2.2.1 (t := 65) rfl ?_
      exact kz_weak [(0, .ref (w_adr E.2.1 8 0)), (1, va_rf (x1)), (2, va_rf (x2)), (3, .int x3)] ⟨rfl, ⟨rfl, ⟨rfl, ⟨rfl, trivial⟩⟩⟩⟩ rfl (zt_X9_parallel_p65 hL  h)
  · skip
    refine kz_inc (M := kt_M43) [(0, .ref (w_adr E.2.1 8 0)), (1, va_rf (x1)), (2, va_rf (x2)), (4, va_rf (x4))] kX9_parallel_c2.2.2.2.1 rfl (Nat.le_of_ble_eq_true rfl) ⟨⟨rfl, rfl, .inl rfl⟩, ⟨⟨rfl, rfl, .inl rfl⟩, ⟨⟨rfl, rfl, .inr (w_cat (x2))⟩, ⟨⟨rfl, rfl, .inl rfl⟩, trivial⟩⟩⟩⟩ rfl ?_
    refine kz_aloadv (M := kt_M43) (x := x4) kX9_parallel_c2.2.2.2.2.1 rfl ?_
    obtain ⟨p2, hxp2, hlp2, h⟩ := h
    refine kz_nz0 (x := x4) hxp2 ?_
    refine kz_gfp (M := kt_M43) (c := 14) (o := p2) kX9_parallel_c2.2.2.2.2.2.1 wf_X9_129 (.inr (by exact hlp2)) ?_
    refine kz_stv (M := kt_M43) (x := w_p w 14 p2 7) [(0, .ref (w_adr E.2.1 8 0)), (1, va_rf (x1)), (2, va_rf (x2)), (3, .int (x3 + 1))] kX9_parallel_c2.2.2.2.2.2.2.1 (Nat.le_of_ble_eq_true rfl) ⟨⟨rfl, rfl, .inl rfl⟩, ⟨⟨rfl, rfl, .inl rfl⟩, ⟨⟨rfl, rfl, .inl rfl⟩, ⟨⟨rfl, rfl, .inr rfl⟩, trivial⟩⟩⟩⟩ rfl ?_
    refine kz_goto (M := kt_M43) kX9_parallel_c2.2.2.2.2.2.2.2.1 (t := 32) rfl ?_
    exact kz_weak [(0, .ref (w_adr E.2.1 8 0)), (1, va_rf (x1)), (2, va_rf (x2)), (3, .int (x3 + 1)), (4, va_rf (w_p w 14 p2 7))] ⟨rfl, ⟨rfl, ⟨rfl, ⟨rfl, ⟨rfl, trivial⟩⟩⟩⟩⟩ rfl h
def zb_X9_parallel_p23 (E : zE) (L : Nat) (Q : kx_Rs → wS → Prop) (x1 : Option Nat) (y0 : Option Nat) (w : wS) : Prop := (∃ p1, x1 = some p1 ∧ w_l w E.2.1 14 p1 ∧ zL_X9_parallel_p32 E L Q x1 y0 0 (w_p w 14 p1 4) w)
theorem zt_X9_parallel_p23 {E : zE} {L : Nat} {Q : kx_Rs → wS → Prop} {x1 : Option Nat} {y0 : Option Nat} {w : wS} (hL : 23 ≤ L) (h : zb_X9_parallel_p23 E L Q x1 y0 w) : kzE E L kt_M43 23 [(0, .ref (w_adr E.2.1 8 0)), (1, va_rf (x1))] [va_rf (y0)] w Q := by
  unfold zb_X9_parallel_p23 at h
  refine kz_stv_n (M := kt_M43) (x := y0) [(0, .ref (w_adr E.2.1 8 0)), (1, va_rf (x1))] kX9_parallel_c1.2.2.2.1 (Nat.le_of_ble_eq_true rfl) ⟨⟨rfl, rfl, .inl rfl⟩, ⟨⟨rfl, rfl, .inr (w_cat (x1))⟩, trivial⟩⟩ rfl ?_
  refine kz_ic (M := kt_M43) 0 kX9_parallel_c1.2.2.2.2.1 rfl ?_
  refine kz_sti_n (M := kt_M43) [(0, .ref (w_adr E.2.1 8 0)), (1, va_rf (x1)), (2, va_rf (y0))] kX9_parallel_c1.2.2.2.2.2.1 (Nat.le_of_ble_eq_true rfl) ⟨⟨rfl, rfl, .inl rfl⟩, ⟨⟨rfl, rfl, .inl rfl⟩, ⟨⟨rfl, rfl, .inr (w_cat (y0))⟩, trivial⟩⟩⟩ rfl ?_
  refine kz_aload_nv (M := kt_M43) (x := x1) kX9_parallel_c1.2.2.2.2.2.2.1 rfl ?_
  obtain ⟨p1, hxp1, hlp1, h⟩ := h
  refine kz_nz0 (x := x1) hxp1 ?_
  refine kz_gfp (M := kt_M43) (c := 14) (o := p1) kX9_parallel_c1.2.2.2.2.2.2.2.1 wf_X9_112 (.inr (by exact hlp1)) ?_
  refine kz_stv (M := kt_M43) (x := w_p w 14 p1 4) [(0, .ref (w_adr E.2.1 8 0)), (1, va_rf (x1)), (2, va_rf (y0)), (3, .int 0)] kX9_parallel_c2.1 (Nat.le_of_ble_eq_true rfl) ⟨⟨rfl, rfl, .inl rfl⟩, ⟨⟨rfl, rfl, .inl rfl⟩, ⟨⟨rfl, rfl, .inl rfl⟩, ⟨⟨rfl, rfl, .inr rfl⟩, trivial⟩⟩⟩⟩ rfl ?_
  exact kz_weak [(0, .ref (w_adr E.2.1 8 0)), (1, va_rf (x1)), (2, va_rf (y0)), (3, .int 0), (4, va_rf (w_p w 14 p1 4))] ⟨rfl, ⟨rfl, ⟨rfl, ⟨rfl, ⟨rfl, trivial⟩⟩⟩⟩⟩ rfl h
def zb_X9_parallel_p0 (E : zE) (L : Nat) (Q : kx_Rs → wS → Prop) (x1 : Option Nat) (w : wS) : Prop := zw E (L - 21) kt_M15 [.ref (w_adr E.2.1 8 0), va_rf (x1)] w (wk0 (fun w1 => wle w w1 → (∃ p3, x1 = some p3 ∧ w_l w1 E.2.1 14 p3 ∧ (if ¬ (w_p w1 14 p3 3) = none then (∃ p4, w_p w1 14 p3 3 = some p4 ∧ w_l w1 E.2.1 14 p4 ∧ zb_X9_parallel_p23 E L Q x1 (w_p w1 14 p4 16) w1) else zb_X9_parallel_p23 E L Q x1 none w1))) (fun e w => Q (.inr e) w))
theorem zt_X9_parallel_p0 {E : zE} {L : Nat} {Q : kx_Rs → wS → Prop} {x1 : Option Nat} {w : wS} (hL : 23 ≤ L) (h : zb_X9_parallel_p0 E L Q x1 w) : kzE E L kt_M43 0 [(0, .ref (w_adr E.2.1 8 0)), (1, va_rf (x1))] [] w Q := by
  unfold zb_X9_parallel_p0 at h
  refine kz_aload_n (M := kt_M43) kX9_parallel_c0.1 rfl ?_
  refine kz_aload_nv (M := kt_M43) (x := x1) kX9_parallel_c0.2.1 rfl ?_
  refine kz_cv0 (M := kt_M43) (c := 8) (o := 0) (As := [va_rf (x1)]) (rest := []) kX9_parallel_c0.2.2.1 wl_X9_239 wMv_15 rfl (.inl rfl) rfl (Nat.le_trans (Nat.le_of_ble_eq_true rfl) hL) (by simp [lg_sl, w_cat, z_ci, z_cr, z_cl, z_cn, kt_M15]) (Nat.le_of_ble_eq_true rfl) h (fun w1 hle h => ?_) (fun _ _ _ h => kzx_no rfl h)
  have h := h hle
  refine kz_aload_nv (M := kt_M43) (x := x1) kX9_parallel_c0.2.2.2.1 rfl ?_
  obtain ⟨p3, hxp3, hlp3, h⟩ := h
  refine kz_nz0 (x := x1) hxp3 ?_
  refine kz_gfp (M := kt_M43) (c := 14) (o := p3) kX9_parallel_c0.2.2.2.2.1 wf_X9_93 (.inr (by exact hlp3)) ?_
  refine kz_ifnonnull (M := kt_M43) (x := w_p w1 14 p3 3) kX9_parallel_c0.2.2.2.2.2.1 (t := 16) rfl h (fun h => ?_) (fun h => ?_)
  · skip
    refine kz_aload_nv (M := kt_M43) (x := x1) kX9_parallel_c1.1 rfl ?_
    refine kz_nz0 (x := x1) hxp3 ?_
    refine kz_gfp (M := kt_M43) (c := 14) (o := p3) kX9_parallel_c1.2.1 wf_X9_93 (.inr (by exact hlp3)) ?_
    obtain ⟨p4, hxp4, hlp4, h⟩ := h
    refine kz_nz0 (x := w_p w1 14 p3 3) hxp4 ?_
    refine kz_gfp (M := kt_M43) (c := 14) (o := p4) kX9_parallel_c1.2.2.1 wf_X9_115 (.inr (by exact hlp4)) ?_
    exact kz_weak [(0, .ref (w_adr E.2.1 8 0)), (1, va_rf (x1))] ⟨rfl, ⟨rfl, trivial⟩⟩ rfl (zt_X9_parallel_p23 hL  h)
  · skip
    refine kz_null (M := kt_M43) kX9_parallel_c0.2.2.2.2.2.2.1 ?_
    refine kz_goto (M := kt_M43) kX9_parallel_c0.2.2.2.2.2.2.2.1 (t := 23) rfl ?_
    exact kz_weak [(0, .ref (w_adr E.2.1 8 0)), (1, va_rf (x1))] ⟨rfl, ⟨rfl, trivial⟩⟩ rfl (zt_X9_parallel_p23 hL  h)
def zL_X9_choices_p12 (E : zE) (L : Nat) (Q : kx_Rs → wS → Prop) (x1 : Option Nat) (x2 : Int32) (x3 : Option Nat) (w : wS) : Prop := kzE E L kt_M21 12 [(0, .ref (w_adr E.2.1 8 0)), (1, va_rf (x1)), (2, .int x2), (3, va_rf (x3))] [] w Q
def zb_X9_choices_p12 (E : zE) (L : Nat) (Q : kx_Rs → wS → Prop) (x1 : Option Nat) (x2 : Int32) (x3 : Option Nat) (w : wS) : Prop := (if x3 = none then (∃ p1, x1 = some p1 ∧ w_l w E.2.1 14 p1 ∧ zw E (L - 22) kt_M25 [.ref (w_adr E.2.1 8 0), .int 1, .int (w_i w 14 p1 2)] w (wk0 (fun w2 => wle w w2 → zw E (L - 22) kt_M25 [.ref (w_adr E.2.1 8 0), .int 33, .int 4] w2 (wk0 (fun w4 => wle w2 w4 → zw E (L - 23) kt_M34 [.ref (w_adr E.2.1 8 0), .int x2] w4 (wk0 (fun w6 => wle w4 w6 → Q (.inl none) w6) (fun e w => Q (.inr e) w))) (fun e w => Q (.inr e) w))) (fun e w => Q (.inr e) w))) else (∃ p8, x3 = some p8 ∧ w_l w E.2.1 14 p8 ∧ zw E (L - 22) kt_M25 [.ref (w_adr E.2.1 8 0), .int 1, .int (w_i w 14 p8 2)] w (wk0 (fun w9 => wle w w9 → zw E (L - 23) kt_M27 [.ref (w_adr E.2.1 8 0), va_rf (w_p w9 14 p8 3)] w9 (wk0 (fun w11 => wle w9 w11 → zw E (L - 21) kt_M32 [.ref (w_adr E.2.1 8 0), .int 16] w11 (wk1 (fun v14 w13 => wle w11 w13 → zw E (L - 22) kt_M46 [.ref (w_adr E.2.1 8 0), va_rf (w_p w13 14 p8 4)] w13 (wk0 (fun w15 => wle w13 w15 → zw E (L - 22) kt_M25 [.ref (w_adr E.2.1 8 0), .int 15, .int x2] w15 (wk0 (fun w17 => wle w15 w17 → zw E (L - 20) kt_M29 [.ref (w_adr E.2.1 8 0)] w17 (wk1 (fun v20 w19 => wle w17 w19 → zw E (L - 21) kt_M33 [.ref (w_adr E.2.1 8 0), .int v14] w19 (wk0 (fun w21 => wle w19 w21 → zL_X9_choices_p12 E L Q x1 (v20 - 1) (w_p w21 14 p8 7) w21) (fun e w => Q (.inr e) w))) (fun e w => Q (.inr e) w))) (fun e w => Q (.inr e) w))) (fun e w => Q (.inr e) w))) (fun e w => Q (.inr e) w))) (fun e w => Q (.inr e) w))) (fun e w => Q (.inr e) w))))
theorem zt_X9_choices_p12 {E : zE} {L : Nat} {Q : kx_Rs → wS → Prop} {x1 : Option Nat} {x2 : Int32} {x3 : Option Nat} {w : wS} (hL : 23 ≤ L) (h : zb_X9_choices_p12 E L Q x1 x2 x3 w) : kzE E L kt_M21 12 [(0, .ref (w_adr E.2.1 8 0)), (1, va_rf (x1)), (2, .int x2), (3, va_rf (x3))] [] w Q := by
  unfold zb_X9_choices_p12 at h
  refine kz_aload_nv (M := kt_M21) (x := x3) kX9_choices_c1.1 rfl ?_
  refine kz_ifnull (M := kt_M21) (x := x3) kX9_choices_c1.2.1 (t := 77) rfl h (fun h => ?_) (fun h => ?_)
  · skip
    refine kz_aload_n (M := kt_M21) kX9_choices_c5.2.2.2.1 rfl ?_
    refine kz_ic (M := kt_M21) 1 kX9_choices_c5.2.2.2.2.1 rfl ?_
    refine kz_aload_nv (M := kt_M21) (x := x1) kX9_choices_c5.2.2.2.2.2.1 rfl ?_
    obtain ⟨p1, hxp1, hlp1, h⟩ := h
    refine kz_nz0 (x := x1) hxp1 ?_
    refine kz_gfi (M := kt_M21) (c := 14) (o := p1) kX9_choices_c5.2.2.2.2.2.2.1 wf_X9_166 (.inr (by exact hlp1)) ?_
    refine kz_cv0 (M := kt_M21) (c := 8) (o := 0) (As := [.int 1, .int (w_i w 14 p1 2)]) (rest := []) kX9_choices_c5.2.2.2.2.2.2.2.1 wl_X9_42 wMv_25 rfl (.inl rfl) rfl (Nat.le_trans (Nat.le_of_ble_eq_true rfl) hL) (Nat.le_of_ble_eq_true rfl) (Nat.le_of_ble_eq_true rfl) h (fun w2 hle h => ?_) (fun _ _ _ h => kzx_no rfl h)
    have h := h hle
    have hlp1 := w_l_le hlp1 hle
    refine kz_aload_n (M := kt_M21) kX9_choices_c6.1 rfl ?_
    refine kz_bi (M := kt_M21) 33 kX9_choices_c6.2.1 rfl ?_
    refine kz_ic (M := kt_M21) 4 kX9_choices_c6.2.2.1 rfl ?_
    refine kz_cv0 (M := kt_M21) (c := 8) (o := 0) (As := [.int 33, .int 4]) (rest := []) kX9_choices_c6.2.2.2.1 wl_X9_42 wMv_25 rfl (.inl rfl) rfl (Nat.le_trans (Nat.le_of_ble_eq_true rfl) hL) (Nat.le_of_ble_eq_true rfl) (Nat.le_of_ble_eq_true rfl) h (fun w4 hle h => ?_) (fun _ _ _ h => kzx_no rfl h)
    have h := h hle
    have hlp1 := w_l_le hlp1 hle
    refine kz_aload_n (M := kt_M21) kX9_choices_c6.2.2.2.2.1 rfl ?_
    refine kz_iload_n (M := kt_M21) kX9_choices_c6.2.2.2.2.2.1 rfl ?_
    refine kz_cv0 (M := kt_M21) (c := 8) (o := 0) (As := [.int x2]) (rest := []) kX9_choices_c6.2.2.2.2.2.2.1 wl_X9_300 wMv_34 rfl (.inl rfl) rfl (Nat.le_trans (Nat.le_of_ble_eq_true rfl) hL) (Nat.le_of_ble_eq_true rfl) (Nat.le_of_ble_eq_true rfl) h (fun w6 hle h => ?_) (fun _ _ _ h => kzx_no rfl h)
    have h := h hle
    have hlp1 := w_l_le hlp1 hle
    exact kz_ret (M := kt_M21) kX9_choices_c6.2.2.2.2.2.2.2.1 rfl h
  · skip
    refine kz_aload_n (M := kt_M21) kX9_choices_c1.2.2.1 rfl ?_
    refine kz_ic (M := kt_M21) 1 kX9_choices_c1.2.2.2.1 rfl ?_
    refine kz_aload_nv (M := kt_M21) (x := x3) kX9_choices_c1.2.2.2.2.1 rfl ?_
    obtain ⟨p8, hxp8, hlp8, h⟩ := h
    refine kz_nz0 (x := x3) hxp8 ?_
    refine kz_gfi (M := kt_M21) (c := 14) (o := p8) kX9_choices_c1.2.2.2.2.2.1 wf_X9_166 (.inr (by exact hlp8)) ?_
    refine kz_cv0 (M := kt_M21) (c := 8) (o := 0) (As := [.int 1, .int (w_i w 14 p8 2)]) (rest := []) kX9_choices_c1.2.2.2.2.2.2.1 wl_X9_42 wMv_25 rfl (.inl rfl) rfl (Nat.le_trans (Nat.le_of_ble_eq_true rfl) hL) (Nat.le_of_ble_eq_true rfl) (Nat.le_of_ble_eq_true rfl) h (fun w9 hle h => ?_) (fun _ _ _ h => kzx_no rfl h)
    have h := h hle
    have hlp8 := w_l_le hlp8 hle
    refine kz_aload_n (M := kt_M21) kX9_choices_c1.2.2.2.2.2.2.2.1 rfl ?_
    refine kz_aload_nv (M := kt_M21) (x := x3) kX9_choices_c2.1 rfl ?_
    refine kz_nz0 (x := x3) hxp8 ?_
    refine kz_gfp (M := kt_M21) (c := 14) (o := p8) kX9_choices_c2.2.1 wf_X9_93 (.inr (by exact hlp8)) ?_
    refine kz_cv0 (M := kt_M21) (c := 8) (o := 0) (As := [va_rf (w_p w9 14 p8 3)]) (rest := []) kX9_choices_c2.2.2.1 wl_X9_200 wMv_27 rfl (.inl rfl) rfl (Nat.le_trans (Nat.le_of_ble_eq_true rfl) hL) (by simp [lg_sl, w_cat, z_ci, z_cr, z_cl, z_cn, kt_M27]) (Nat.le_of_ble_eq_true rfl) h (fun w11 hle h => ?_) (fun _ _ _ h => kzx_no rfl h)
    have h := h hle
    have hlp8 := w_l_le hlp8 hle
    refine kz_aload_n (M := kt_M21) kX9_choices_c2.2.2.2.1 rfl ?_
    refine kz_bi (M := kt_M21) 16 kX9_choices_c2.2.2.2.2.1 rfl ?_
    refine kz_cv1 (M := kt_M21) (c := 8) (o := 0) (As := [.int 16]) (rest := []) kX9_choices_c2.2.2.2.2.2.1 wl_X9_209 wMv_32 rfl (.inl rfl) rfl (Nat.le_trans (Nat.le_of_ble_eq_true rfl) hL) (Nat.le_of_ble_eq_true rfl) (Nat.le_of_ble_eq_true rfl) h (fun v14 w13 hle h => ?_) (fun _ _ _ h => kzx_no rfl h)
    have h := h hle
    have hlp8 := w_l_le hlp8 hle
    refine kz_sti (M := kt_M21) [(0, .ref (w_adr E.2.1 8 0)), (1, va_rf (x1)), (2, .int x2), (3, va_rf (x3))] kX9_choices_c2.2.2.2.2.2.2.1 (Nat.le_of_ble_eq_true rfl) ⟨⟨rfl, rfl, .inl rfl⟩, ⟨⟨rfl, rfl, .inl rfl⟩, ⟨⟨rfl, rfl, .inl rfl⟩, ⟨⟨rfl, rfl, .inr (w_cat (x3))⟩, trivial⟩⟩⟩⟩ rfl ?_
    refine kz_aload_n (M := kt_M21) kX9_choices_c2.2.2.2.2.2.2.2.1 rfl ?_
    refine kz_aload_nv (M := kt_M21) (x := x3) kX9_choices_c3.1 rfl ?_
    refine kz_nz0 (x := x3) hxp8 ?_
    refine kz_gfp (M := kt_M21) (c := 14) (o := p8) kX9_choices_c3.2.1 wf_X9_112 (.inr (by exact hlp8)) ?_
    refine kz_cv0 (M := kt_M21) (c := 8) (o := 0) (As := [va_rf (w_p w13 14 p8 4)]) (rest := []) kX9_choices_c3.2.2.1 wl_X9_218 wMv_46 rfl (.inl rfl) rfl (Nat.le_trans (Nat.le_of_ble_eq_true rfl) hL) (by simp [lg_sl, w_cat, z_ci, z_cr, z_cl, z_cn, kt_M46]) (Nat.le_of_ble_eq_true rfl) h (fun w15 hle h => ?_) (fun _ _ _ h => kzx_no rfl h)
    have h := h hle
    have hlp8 := w_l_le hlp8 hle
    refine kz_aload_n (M := kt_M21) kX9_choices_c3.2.2.2.1 rfl ?_
    refine kz_bi (M := kt_M21) 15 kX9_choices_c3.2.2.2.2.1 rfl ?_
    refine kz_iload_n (M := kt_M21) kX9_choices_c3.2.2.2.2.2.1 rfl ?_
    refine kz_cv0 (M := kt_M21) (c := 8) (o := 0) (As := [.int 15, .int x2]) (rest := []) kX9_choices_c3.2.2.2.2.2.2.1 wl_X9_42 wMv_25 rfl (.inl rfl) rfl (Nat.le_trans (Nat.le_of_ble_eq_true rfl) hL) (Nat.le_of_ble_eq_true rfl) (Nat.le_of_ble_eq_true rfl) h (fun w17 hle h => ?_) (fun _ _ _ h => kzx_no rfl h)
    have h := h hle
    have hlp8 := w_l_le hlp8 hle
    refine kz_aload_n (M := kt_M21) kX9_choices_c3.2.2.2.2.2.2.2.1 rfl ?_
    refine kz_cv1 (M := kt_M21) (c := 8) (o := 0) (As := []) (rest := []) kX9_choices_c4.1 wl_X9_46 wMv_29 rfl (.inl rfl) rfl (Nat.le_trans (Nat.le_of_ble_eq_true rfl) hL) (Nat.le_of_ble_eq_true rfl) (Nat.le_of_ble_eq_true rfl) h (fun v20 w19 hle h => ?_) (fun _ _ _ h => kzx_no rfl h)
    have h := h hle
    have hlp8 := w_l_le hlp8 hle
    refine kz_ic (M := kt_M21) 1 kX9_choices_c4.2.1 rfl ?_
    refine kz_isub (M := kt_M21) kX9_choices_c4.2.2.1 ?_
    refine kz_sti_n (M := kt_M21) [(0, .ref (w_adr E.2.1 8 0)), (1, va_rf (x1)), (3, va_rf (x3)), (4, .int v14)] kX9_choices_c4.2.2.2.1 (Nat.le_of_ble_eq_true rfl) ⟨⟨rfl, rfl, .inl rfl⟩, ⟨⟨rfl, rfl, .inr (w_cat (x1))⟩, ⟨⟨rfl, rfl, .inl rfl⟩, ⟨⟨rfl, rfl, .inl rfl⟩, trivial⟩⟩⟩⟩ rfl ?_
    refine kz_aload_n (M := kt_M21) kX9_choices_c4.2.2.2.2.1 rfl ?_
    refine kz_iload (M := kt_M21) kX9_choices_c4.2.2.2.2.2.1 rfl ?_
    refine kz_cv0 (M := kt_M21) (c := 8) (o := 0) (As := [.int v14]) (rest := []) kX9_choices_c4.2.2.2.2.2.2.1 wl_X9_236 wMv_33 rfl (.inl rfl) rfl (Nat.le_trans (Nat.le_of_ble_eq_true rfl) hL) (Nat.le_of_ble_eq_true rfl) (Nat.le_of_ble_eq_true rfl) h (fun w21 hle h => ?_) (fun _ _ _ h => kzx_no rfl h)
    have h := h hle
    have hlp8 := w_l_le hlp8 hle
    refine kz_aload_nv (M := kt_M21) (x := x3) kX9_choices_c4.2.2.2.2.2.2.2.1 rfl ?_
    refine kz_nz0 (x := x3) hxp8 ?_
    refine kz_gfp (M := kt_M21) (c := 14) (o := p8) kX9_choices_c5.1 wf_X9_129 (.inr (by exact hlp8)) ?_
    refine kz_stv_n (M := kt_M21) (x := w_p w21 14 p8 7) [(0, .ref (w_adr E.2.1 8 0)), (1, va_rf (x1)), (2, .int (v20 - 1))] kX9_choices_c5.2.1 (Nat.le_of_ble_eq_true rfl) ⟨⟨rfl, rfl, .inl rfl⟩, ⟨⟨rfl, rfl, .inl rfl⟩, ⟨⟨rfl, rfl, .inr rfl⟩, trivial⟩⟩⟩ rfl ?_
    refine kz_goto (M := kt_M21) kX9_choices_c5.2.2.1 (t := 12) rfl ?_
    exact kz_weak [(0, .ref (w_adr E.2.1 8 0)), (1, va_rf (x1)), (2, .int (v20 - 1)), (3, va_rf (w_p w21 14 p8 7))] ⟨rfl, ⟨rfl, ⟨rfl, ⟨rfl, trivial⟩⟩⟩⟩ rfl h
def zb_X9_choices_p0 (E : zE) (L : Nat) (Q : kx_Rs → wS → Prop) (x1 : Option Nat) (w : wS) : Prop := zw E (L - 21) kt_M15 [.ref (w_adr E.2.1 8 0), va_rf (x1)] w (wk0 (fun w1 => wle w w1 → (∃ p3, x1 = some p3 ∧ w_l w1 E.2.1 14 p3 ∧ zL_X9_choices_p12 E L Q x1 (-1) (w_p w1 14 p3 4) w1)) (fun e w => Q (.inr e) w))
theorem zt_X9_choices_p0 {E : zE} {L : Nat} {Q : kx_Rs → wS → Prop} {x1 : Option Nat} {w : wS} (hL : 23 ≤ L) (h : zb_X9_choices_p0 E L Q x1 w) : kzE E L kt_M21 0 [(0, .ref (w_adr E.2.1 8 0)), (1, va_rf (x1))] [] w Q := by
  unfold zb_X9_choices_p0 at h
  refine kz_aload_n (M := kt_M21) kX9_choices_c0.1 rfl ?_
  refine kz_aload_nv (M := kt_M21) (x := x1) kX9_choices_c0.2.1 rfl ?_
  refine kz_cv0 (M := kt_M21) (c := 8) (o := 0) (As := [va_rf (x1)]) (rest := []) kX9_choices_c0.2.2.1 wl_X9_239 wMv_15 rfl (.inl rfl) rfl (Nat.le_trans (Nat.le_of_ble_eq_true rfl) hL) (by simp [lg_sl, w_cat, z_ci, z_cr, z_cl, z_cn, kt_M15]) (Nat.le_of_ble_eq_true rfl) h (fun w1 hle h => ?_) (fun _ _ _ h => kzx_no rfl h)
  have h := h hle
  refine kz_ic (M := kt_M21) (-1) kX9_choices_c0.2.2.2.1 rfl ?_
  refine kz_sti_n (M := kt_M21) [(0, .ref (w_adr E.2.1 8 0)), (1, va_rf (x1))] kX9_choices_c0.2.2.2.2.1 (Nat.le_of_ble_eq_true rfl) ⟨⟨rfl, rfl, .inl rfl⟩, ⟨⟨rfl, rfl, .inr (w_cat (x1))⟩, trivial⟩⟩ rfl ?_
  refine kz_aload_nv (M := kt_M21) (x := x1) kX9_choices_c0.2.2.2.2.2.1 rfl ?_
  obtain ⟨p3, hxp3, hlp3, h⟩ := h
  refine kz_nz0 (x := x1) hxp3 ?_
  refine kz_gfp (M := kt_M21) (c := 14) (o := p3) kX9_choices_c0.2.2.2.2.2.2.1 wf_X9_112 (.inr (by exact hlp3)) ?_
  refine kz_stv_n (M := kt_M21) (x := w_p w1 14 p3 4) [(0, .ref (w_adr E.2.1 8 0)), (1, va_rf (x1)), (2, .int (-1))] kX9_choices_c0.2.2.2.2.2.2.2.1 (Nat.le_of_ble_eq_true rfl) ⟨⟨rfl, rfl, .inl rfl⟩, ⟨⟨rfl, rfl, .inl rfl⟩, ⟨⟨rfl, rfl, .inr rfl⟩, trivial⟩⟩⟩ rfl ?_
  exact kz_weak [(0, .ref (w_adr E.2.1 8 0)), (1, va_rf (x1)), (2, .int (-1)), (3, va_rf (w_p w1 14 p3 4))] ⟨rfl, ⟨rfl, ⟨rfl, ⟨rfl, trivial⟩⟩⟩⟩ rfl h
def zL_X9_options_p139 (E : zE) (L : Nat) (Q : kx_Rs → wS → Prop) (x2 : Int32) (x3 : Option Nat) (w : wS) : Prop := kzE E L kt_M40 139 [(0, .ref (w_adr E.2.1 8 0)), (2, .int x2), (3, va_rf (x3))] [] w Q
def zL_X9_options_p32 (E : zE) (L : Nat) (Q : kx_Rs → wS → Prop) (x1 : Option Nat) (x2 : Option Nat) (x3 : Option Nat) (w : wS) : Prop := kzE E L kt_M40 32 [(0, .ref (w_adr E.2.1 8 0)), (1, va_rf (x1)), (2, va_rf (x2)), (3, va_rf (x3))] [] w Q
def zL_X9_options_p18 (E : zE) (L : Nat) (Q : kx_Rs → wS → Prop) (x1 : Option Nat) (x2 : Option Nat) (w : wS) : Prop := kzE E L kt_M40 18 [(0, .ref (w_adr E.2.1 8 0)), (1, va_rf (x1)), (2, va_rf (x2))] [] w Q
def zb_X9_options_p139 (E : zE) (L : Nat) (Q : kx_Rs → wS → Prop) (x2 : Int32) (x3 : Option Nat) (w : wS) : Prop := (if x3 = none then zw E (L - 23) kt_M34 [.ref (w_adr E.2.1 8 0), .int x2] w (wk0 (fun w1 => wle w w1 → Q (.inl none) w1) (fun e w => Q (.inr e) w)) else (∃ p3, x3 = some p3 ∧ w_l w E.2.1 14 p3 ∧ zw E (L - 23) kt_M34 [.ref (w_adr E.2.1 8 0), .int (w_i w 14 p3 19)] w (wk0 (fun w4 => wle w w4 → zw E (L - 22) kt_M46 [.ref (w_adr E.2.1 8 0), va_rf (w_p w4 14 p3 4)] w4 (wk0 (fun w6 => wle w4 w6 → zw E (L - 22) kt_M25 [.ref (w_adr E.2.1 8 0), .int 15, .int x2] w6 (wk0 (fun w8 => wle w6 w8 → zw E (L - 20) kt_M29 [.ref (w_adr E.2.1 8 0)] w8 (wk1 (fun v11 w10 => wle w8 w10 → zL_X9_options_p139 E L Q (v11 - 1) (w_p w10 14 p3 7) w10) (fun e w => Q (.inr e) w))) (fun e w => Q (.inr e) w))) (fun e w => Q (.inr e) w))) (fun e w => Q (.inr e) w))))
theorem zt_X9_options_p139 {E : zE} {L : Nat} {Q : kx_Rs → wS → Prop} {x2 : Int32} {x3 : Option Nat} {w : wS} (hL : 23 ≤ L) (h : zb_X9_options_p139 E L Q x2 x3 w) : kzE E L kt_M40 139 [(0, .ref (w_adr E.2.1 8 0)), (2, .int x2), (3, va_rf (x3))] [] w Q := by
  unfold zb_X9_options_p139 at h
  refine kz_aload_nv (M := kt_M40) (x := x3) kX9_options_c9.2.1 rfl ?_
  refine kz_ifnull (M := kt_M40) (x := x3) kX9_options_c9.2.2.1 (t := 181) rfl h (fun h => ?_) (fun h => ?_)
  · skip
    refine kz_aload_n (M := kt_M40) kX9_options_c12.1 rfl ?_
    refine kz_iload_n (M := kt_M40) kX9_options_c12.2.1 rfl ?_
    refine kz_cv0 (M := kt_M40) (c := 8) (o := 0) (As := [.int x2]) (rest := []) kX9_options_c12.2.2.1 wl_X9_300 wMv_34 rfl (.inl rfl) rfl (Nat.le_trans (Nat.le_of_ble_eq_true rfl) hL) (Nat.le_of_ble_eq_true rfl) (Nat.le_of_ble_eq_true rfl) h (fun w1 hle h => ?_) (fun _ _ _ h => kzx_no rfl h)
    have h := h hle
    exact kz_ret (M := kt_M40) kX9_options_c12.2.2.2.1 rfl h
  · skip
    refine kz_aload_n (M := kt_M40) kX9_options_c9.2.2.2.1 rfl ?_
    refine kz_aload_nv (M := kt_M40) (x := x3) kX9_options_c9.2.2.2.2.1 rfl ?_
    obtain ⟨p3, hxp3, hlp3, h⟩ := h
    refine kz_nz0 (x := x3) hxp3 ?_
    refine kz_gfi (M := kt_M40) (c := 14) (o := p3) kX9_options_c9.2.2.2.2.2.1 wf_X9_312 (.inr (by exact hlp3)) ?_
    refine kz_cv0 (M := kt_M40) (c := 8) (o := 0) (As := [.int (w_i w 14 p3 19)]) (rest := []) kX9_options_c9.2.2.2.2.2.2.1 wl_X9_300 wMv_34 rfl (.inl rfl) rfl (Nat.le_trans (Nat.le_of_ble_eq_true rfl) hL) (Nat.le_of_ble_eq_true rfl) (Nat.le_of_ble_eq_true rfl) h (fun w4 hle h => ?_) (fun _ _ _ h => kzx_no rfl h)
    have h := h hle
    have hlp3 := w_l_le hlp3 hle
    refine kz_aload_n (M := kt_M40) kX9_options_c9.2.2.2.2.2.2.2.1 rfl ?_
    refine kz_aload_nv (M := kt_M40) (x := x3) kX9_options_c10.1 rfl ?_
    refine kz_nz0 (x := x3) hxp3 ?_
    refine kz_gfp (M := kt_M40) (c := 14) (o := p3) kX9_options_c10.2.1 wf_X9_112 (.inr (by exact hlp3)) ?_
    refine kz_cv0 (M := kt_M40) (c := 8) (o := 0) (As := [va_rf (w_p w4 14 p3 4)]) (rest := []) kX9_options_c10.2.2.1 wl_X9_218 wMv_46 rfl (.inl rfl) rfl (Nat.le_trans (Nat.le_of_ble_eq_true rfl) hL) (by simp [lg_sl, w_cat, z_ci, z_cr, z_cl, z_cn, kt_M46]) (Nat.le_of_ble_eq_true rfl) h (fun w6 hle h => ?_) (fun _ _ _ h => kzx_no rfl h)
    have h := h hle
    have hlp3 := w_l_le hlp3 hle
    refine kz_aload_n (M := kt_M40) kX9_options_c10.2.2.2.1 rfl ?_
    refine kz_bi (M := kt_M40) 15 kX9_options_c10.2.2.2.2.1 rfl ?_
    refine kz_iload_n (M := kt_M40) kX9_options_c10.2.2.2.2.2.1 rfl ?_
    refine kz_cv0 (M := kt_M40) (c := 8) (o := 0) (As := [.int 15, .int x2]) (rest := []) kX9_options_c10.2.2.2.2.2.2.1 wl_X9_42 wMv_25 rfl (.inl rfl) rfl (Nat.le_trans (Nat.le_of_ble_eq_true rfl) hL) (Nat.le_of_ble_eq_true rfl) (Nat.le_of_ble_eq_true rfl) h (fun w8 hle h => ?_) (fun _ _ _ h => kzx_no rfl h)
    have h := h hle
    have hlp3 := w_l_le hlp3 hle
    refine kz_aload_n (M := kt_M40) kX9_options_c10.2.2.2.2.2.2.2.1 rfl ?_
    refine kz_cv1 (M := kt_M40) (c := 8) (o := 0) (As := []) (rest := []) kX9_options_c11.1 wl_X9_46 wMv_29 rfl (.inl rfl) rfl (Nat.le_trans (Nat.le_of_ble_eq_true rfl) hL) (Nat.le_of_ble_eq_true rfl) (Nat.le_of_ble_eq_true rfl) h (fun v11 w10 hle h => ?_) (fun _ _ _ h => kzx_no rfl h)
    have h := h hle
    have hlp3 := w_l_le hlp3 hle
    refine kz_ic (M := kt_M40) 1 kX9_options_c11.2.1 rfl ?_
    refine kz_isub (M := kt_M40) kX9_options_c11.2.2.1 ?_
    refine kz_sti_n (M := kt_M40) [(0, .ref (w_adr E.2.1 8 0)), (3, va_rf (x3))] kX9_options_c11.2.2.2.1 (Nat.le_of_ble_eq_true rfl) ⟨⟨rfl, rfl, .inl rfl⟩, ⟨⟨rfl, rfl, .inl rfl⟩, trivial⟩⟩ rfl ?_
    refine kz_aload_nv (M := kt_M40) (x := x3) kX9_options_c11.2.2.2.2.1 rfl ?_
    refine kz_nz0 (x := x3) hxp3 ?_
    refine kz_gfp (M := kt_M40) (c := 14) (o := p3) kX9_options_c11.2.2.2.2.2.1 wf_X9_129 (.inr (by exact hlp3)) ?_
    refine kz_stv_n (M := kt_M40) (x := w_p w10 14 p3 7) [(0, .ref (w_adr E.2.1 8 0)), (2, .int (v11 - 1))] kX9_options_c11.2.2.2.2.2.2.1 (Nat.le_of_ble_eq_true rfl) ⟨⟨rfl, rfl, .inl rfl⟩, ⟨⟨rfl, rfl, .inr rfl⟩, trivial⟩⟩ rfl ?_
    refine kz_goto (M := kt_M40) kX9_options_c11.2.2.2.2.2.2.2.1 (t := 139) rfl ?_
    exact kz_weak [(0, .ref (w_adr E.2.1 8 0)), (2, .int (v11 - 1)), (3, va_rf (w_p w10 14 p3 7))] ⟨rfl, ⟨rfl, ⟨rfl, trivial⟩⟩⟩ rfl h
def zb_X9_options_p117 (E : zE) (L : Nat) (Q : kx_Rs → wS → Prop) (x1 : Option Nat) (x2 : Option Nat) (w : wS) : Prop := (∃ p1, x2 = some p1 ∧ w_l w E.2.1 14 p1 ∧ zL_X9_options_p18 E L Q x1 (w_p w 14 p1 7) w)
theorem zt_X9_options_p117 {E : zE} {L : Nat} {Q : kx_Rs → wS → Prop} {x1 : Option Nat} {x2 : Option Nat} {w : wS} (hL : 23 ≤ L) (h : zb_X9_options_p117 E L Q x1 x2 w) : kzE E L kt_M40 117 [(0, .ref (w_adr E.2.1 8 0)), (1, va_rf (x1)), (2, va_rf (x2))] [] w Q := by
  unfold zb_X9_options_p117 at h
  refine kz_aload_nv (M := kt_M40) (x := x2) kX9_options_c7.2.2.2.2.1 rfl ?_
  obtain ⟨p1, hxp1, hlp1, h⟩ := h
  refine kz_nz0 (x := x2) hxp1 ?_
  refine kz_gfp (M := kt_M40) (c := 14) (o := p1) kX9_options_c7.2.2.2.2.2.1 wf_X9_129 (.inr (by exact hlp1)) ?_
  refine kz_stv_n (M := kt_M40) (x := w_p w 14 p1 7) [(0, .ref (w_adr E.2.1 8 0)), (1, va_rf (x1))] kX9_options_c7.2.2.2.2.2.2.1 (Nat.le_of_ble_eq_true rfl) ⟨⟨rfl, rfl, .inl rfl⟩, ⟨⟨rfl, rfl, .inr (w_cat (x1))⟩, trivial⟩⟩ rfl ?_
  refine kz_goto (M := kt_M40) kX9_options_c7.2.2.2.2.2.2.2.1 (t := 18) rfl ?_
  exact kz_weak [(0, .ref (w_adr E.2.1 8 0)), (1, va_rf (x1)), (2, va_rf (w_p w 14 p1 7))] ⟨rfl, ⟨rfl, ⟨rfl, trivial⟩⟩⟩ rfl h
def zb_X9_options_p98 (E : zE) (L : Nat) (Q : kx_Rs → wS → Prop) (x1 : Option Nat) (x2 : Option Nat) (w : wS) : Prop := (∃ p1, x2 = some p1 ∧ w_l w E.2.1 14 p1 ∧ (if w_i w 14 p1 11 = 0 then zb_X9_options_p117 E L Q x1 x2 w else zw E (L - 22) kt_M222 [.ref (w_adr E.2.1 9 0), .int (w_i w 14 p1 19), .int (-1)] w (wk0 (fun w2 => wle w w2 → zb_X9_options_p117 E L Q x1 x2 w2) (fun e w => Q (.inr e) w))))
theorem zt_X9_options_p98 {E : zE} {L : Nat} {Q : kx_Rs → wS → Prop} {x1 : Option Nat} {x2 : Option Nat} {w : wS} (hL : 23 ≤ L) (h : zb_X9_options_p98 E L Q x1 x2 w) : kzE E L kt_M40 98 [(0, .ref (w_adr E.2.1 8 0)), (1, va_rf (x1)), (2, va_rf (x2))] [] w Q := by
  unfold zb_X9_options_p98 at h
  refine kz_aload_nv (M := kt_M40) (x := x2) kX9_options_c6.2.2.2.1 rfl ?_
  obtain ⟨p1, hxp1, hlp1, h⟩ := h
  refine kz_nz0 (x := x2) hxp1 ?_
  refine kz_gfi (M := kt_M40) (c := 14) (o := p1) kX9_options_c6.2.2.2.2.1 wf_X9_221 (.inr (by exact hlp1)) ?_
  refine kz_if_eq (M := kt_M40) kX9_options_c6.2.2.2.2.2.1 (t := 117) rfl h (fun h => ?_) (fun h => ?_)
  · skip
    exact kz_weak [(0, .ref (w_adr E.2.1 8 0)), (1, va_rf (x1)), (2, va_rf (x2))] ⟨rfl, ⟨rfl, ⟨rfl, trivial⟩⟩⟩ rfl (zt_X9_options_p117 hL  h)
  · skip
    refine kz_aload_n (M := kt_M40) kX9_options_c6.2.2.2.2.2.2.1 rfl ?_
    refine kz_gfc (M := kt_M40) (x := 36) (c := 8) (o := 0) kX9_options_c6.2.2.2.2.2.2.2.1 wf_X9_12 (.inl rfl) ?_
    refine kz_aload_nv (M := kt_M40) (x := x2) kX9_options_c7.1 rfl ?_
    refine kz_nz0 (x := x2) hxp1 ?_
    refine kz_gfi (M := kt_M40) (c := 14) (o := p1) kX9_options_c7.2.1 wf_X9_312 (.inr (by exact hlp1)) ?_
    refine kz_ic (M := kt_M40) (-1) kX9_options_c7.2.2.1 rfl ?_
    refine kz_cv0 (M := kt_M40) (c := 9) (o := 0) (As := [.int (w_i w 14 p1 19), .int (-1)]) (rest := []) kX9_options_c7.2.2.2.1 wl_X9_50 wMv_222 rfl (.inl rfl) rfl (Nat.le_trans (Nat.le_of_ble_eq_true rfl) hL) (Nat.le_of_ble_eq_true rfl) (Nat.le_of_ble_eq_true rfl) h (fun w2 hle h => ?_) (fun _ _ _ h => kzx_no rfl h)
    have h := h hle
    have hlp1 := w_l_le hlp1 hle
    exact kz_weak [(0, .ref (w_adr E.2.1 8 0)), (1, va_rf (x1)), (2, va_rf (x2))] ⟨rfl, ⟨rfl, ⟨rfl, trivial⟩⟩⟩ rfl (zt_X9_options_p117 hL  h)
def zb_X9_options_p81 (E : zE) (L : Nat) (Q : kx_Rs → wS → Prop) (x1 : Option Nat) (x2 : Option Nat) (w : wS) : Prop := (∃ p1, x2 = some p1 ∧ w_l w E.2.1 14 p1 ∧ (if w_i w 14 p1 11 = 0 then zb_X9_options_p98 E L Q x1 x2 w else zw E (L - 21) kt_M32 [.ref (w_adr E.2.1 8 0), .int 15] w (wk1 (fun v3 w2 => wle w w2 → zb_X9_options_p98 E L Q x1 x2 (ws_i w2 14 p1 19 v3)) (fun e w => Q (.inr e) w))))
theorem zt_X9_options_p81 {E : zE} {L : Nat} {Q : kx_Rs → wS → Prop} {x1 : Option Nat} {x2 : Option Nat} {w : wS} (hL : 23 ≤ L) (h : zb_X9_options_p81 E L Q x1 x2 w) : kzE E L kt_M40 81 [(0, .ref (w_adr E.2.1 8 0)), (1, va_rf (x1)), (2, va_rf (x2))] [] w Q := by
  unfold zb_X9_options_p81 at h
  refine kz_aload_nv (M := kt_M40) (x := x2) kX9_options_c5.2.2.2.1 rfl ?_
  obtain ⟨p1, hxp1, hlp1, h⟩ := h
  refine kz_nz0 (x := x2) hxp1 ?_
  refine kz_gfi (M := kt_M40) (c := 14) (o := p1) kX9_options_c5.2.2.2.2.1 wf_X9_221 (.inr (by exact hlp1)) ?_
  refine kz_if_eq (M := kt_M40) kX9_options_c5.2.2.2.2.2.1 (t := 98) rfl h (fun h => ?_) (fun h => ?_)
  · skip
    exact kz_weak [(0, .ref (w_adr E.2.1 8 0)), (1, va_rf (x1)), (2, va_rf (x2))] ⟨rfl, ⟨rfl, ⟨rfl, trivial⟩⟩⟩ rfl (zt_X9_options_p98 hL  h)
  · skip
    refine kz_aload_nv (M := kt_M40) (x := x2) kX9_options_c5.2.2.2.2.2.2.1 rfl ?_
    refine kz_aload_n (M := kt_M40) kX9_options_c5.2.2.2.2.2.2.2.1 rfl ?_
    refine kz_bi (M := kt_M40) 15 kX9_options_c6.1 rfl ?_
    refine kz_cv1 (M := kt_M40) (c := 8) (o := 0) (As := [.int 15]) (rest := [va_rf (x2)]) kX9_options_c6.2.1 wl_X9_209 wMv_32 rfl (.inl rfl) rfl (Nat.le_trans (Nat.le_of_ble_eq_true rfl) hL) (Nat.le_of_ble_eq_true rfl) (by simp [kx_cat, w_cat, z_ci, z_cr, z_cl, z_cn]) h (fun v3 w2 hle h => ?_) (fun _ _ _ h => kzx_no rfl h)
    have h := h hle
    have hlp1 := w_l_le hlp1 hle
    refine kz_nz1 (x := x2) hxp1 ?_
    refine kz_pfi (M := kt_M40) (c := 14) (o := p1) kX9_options_c6.2.2.1 wq_X9_312 (.inr (by exact hlp1)) ?_
    exact kz_weak [(0, .ref (w_adr E.2.1 8 0)), (1, va_rf (x1)), (2, va_rf (x2))] ⟨rfl, ⟨rfl, ⟨rfl, trivial⟩⟩⟩ rfl (zt_X9_options_p98 hL  h)
def zb_X9_options_p32 (E : zE) (L : Nat) (Q : kx_Rs → wS → Prop) (x1 : Option Nat) (x2 : Option Nat) (x3 : Option Nat) (w : wS) : Prop := (if x3 = none then (∃ p1, x2 = some p1 ∧ w_l w E.2.1 14 p1 ∧ (if w_i w 14 p1 11 = 0 then zb_X9_options_p81 E L Q x1 x2 w else zw E (L - 21) kt_M24 [.ref (w_adr E.2.1 8 0), .int 18] w (wk0 (fun w2 => wle w w2 → zb_X9_options_p81 E L Q x1 x2 w2) (fun e w => Q (.inr e) w)))) else (∃ p4, x3 = some p4 ∧ w_l w E.2.1 14 p4 ∧ (∃ p5, x2 = some p5 ∧ w_l w E.2.1 14 p5 ∧ zw E (L - 23) kt_M26 [.ref (w_adr E.2.1 8 0), .int 17, .int (w_i w 14 p4 19), .int (w_i w 14 p5 19)] w (wk0 (fun w6 => wle w w6 → zw E (L - 20) kt_M29 [.ref (w_adr E.2.1 8 0)] w6 (wk1 (fun v9 w8 => wle w6 w8 → zL_X9_options_p32 E L Q x1 x2 (w_p w8 14 p4 7) (ws_i w8 14 p5 19 (v9 - 1))) (fun e w => Q (.inr e) w))) (fun e w => Q (.inr e) w)))))
theorem zt_X9_options_p32 {E : zE} {L : Nat} {Q : kx_Rs → wS → Prop} {x1 : Option Nat} {x2 : Option Nat} {x3 : Option Nat} {w : wS} (hL : 23 ≤ L) (h : zb_X9_options_p32 E L Q x1 x2 x3 w) : kzE E L kt_M40 32 [(0, .ref (w_adr E.2.1 8 0)), (1, va_rf (x1)), (2, va_rf (x2)), (3, va_rf (x3))] [] w Q := by
  unfold zb_X9_options_p32 at h
  refine kz_aload_nv (M := kt_M40) (x := x3) kX9_options_c2.2.2.1 rfl ?_
  refine kz_ifnull (M := kt_M40) (x := x3) kX9_options_c2.2.2.2.1 (t := 68) rfl h (fun h => ?_) (fun h => ?_)
  · skip
    refine kz_aload_nv (M := kt_M40) (x := x2) kX9_options_c4.2.2.2.2.2.1 rfl ?_
    obtain ⟨p1, hxp1, hlp1, h⟩ := h
    refine kz_nz0 (x := x2) hxp1 ?_
    refine kz_gfi (M := kt_M40) (c := 14) (o := p1) kX9_options_c4.2.2.2.2.2.2.1 wf_X9_221 (.inr (by exact hlp1)) ?_
    refine kz_if_eq (M := kt_M40) kX9_options_c4.2.2.2.2.2.2.2.1 (t := 81) rfl h (fun h => ?_) (fun h => ?_)
    · skip
      exact kz_weak [(0, .ref (w_adr E.2.1 8 0)), (1, va_rf (x1)), (2, va_rf (x2))] ⟨rfl, ⟨rfl, ⟨rfl, trivial⟩⟩⟩ rfl (zt_X9_options_p81 hL  h)
    · skip
      refine kz_aload_n (M := kt_M40) kX9_options_c5.1 rfl ?_
      refine kz_bi (M := kt_M40) 18 kX9_options_c5.2.1 rfl ?_
      refine kz_cv0 (M := kt_M40) (c := 8) (o := 0) (As := [.int 18]) (rest := []) kX9_options_c5.2.2.1 wl_X9_137 wMv_24 rfl (.inl rfl) rfl (Nat.le_trans (Nat.le_of_ble_eq_true rfl) hL) (Nat.le_of_ble_eq_true rfl) (Nat.le_of_ble_eq_true rfl) h (fun w2 hle h => ?_) (fun _ _ _ h => kzx_no rfl h)
      have h := h hle
      have hlp1 := w_l_le hlp1 hle
      exact kz_weak [(0, .ref (w_adr E.2.1 8 0)), (1, va_rf (x1)), (2, va_rf (x2))] ⟨rfl, ⟨rfl, ⟨rfl, trivial⟩⟩⟩ rfl (zt_X9_options_p81 hL  h)
  · skip
    refine kz_aload_n (M := kt_M40) kX9_options_c2.2.2.2.2.1 rfl ?_
    refine kz_bi (M := kt_M40) 17 kX9_options_c2.2.2.2.2.2.1 rfl ?_
    refine kz_aload_nv (M := kt_M40) (x := x3) kX9_options_c2.2.2.2.2.2.2.1 rfl ?_
    obtain ⟨p4, hxp4, hlp4, h⟩ := h
    refine kz_nz0 (x := x3) hxp4 ?_
    refine kz_gfi (M := kt_M40) (c := 14) (o := p4) kX9_options_c2.2.2.2.2.2.2.2.1 wf_X9_312 (.inr (by exact hlp4)) ?_
    refine kz_aload_nv (M := kt_M40) (x := x2) kX9_options_c3.1 rfl ?_
    obtain ⟨p5, hxp5, hlp5, h⟩ := h
    refine kz_nz0 (x := x2) hxp5 ?_
    refine kz_gfi (M := kt_M40) (c := 14) (o := p5) kX9_options_c3.2.1 wf_X9_312 (.inr (by exact hlp5)) ?_
    refine kz_cv0 (M := kt_M40) (c := 8) (o := 0) (As := [.int 17, .int (w_i w 14 p4 19), .int (w_i w 14 p5 19)]) (rest := []) kX9_options_c3.2.2.1 wl_X9_154 wMv_26 rfl (.inl rfl) rfl (Nat.le_trans (Nat.le_of_ble_eq_true rfl) hL) (Nat.le_of_ble_eq_true rfl) (Nat.le_of_ble_eq_true rfl) h (fun w6 hle h => ?_) (fun _ _ _ h => kzx_no rfl h)
    have h := h hle
    have hlp4 := w_l_le hlp4 hle
    have hlp5 := w_l_le hlp5 hle
    refine kz_aload_nv (M := kt_M40) (x := x2) kX9_options_c3.2.2.2.1 rfl ?_
    refine kz_aload_n (M := kt_M40) kX9_options_c3.2.2.2.2.1 rfl ?_
    refine kz_cv1 (M := kt_M40) (c := 8) (o := 0) (As := []) (rest := [va_rf (x2)]) kX9_options_c3.2.2.2.2.2.1 wl_X9_46 wMv_29 rfl (.inl rfl) rfl (Nat.le_trans (Nat.le_of_ble_eq_true rfl) hL) (Nat.le_of_ble_eq_true rfl) (by simp [kx_cat, w_cat, z_ci, z_cr, z_cl, z_cn]) h (fun v9 w8 hle h => ?_) (fun _ _ _ h => kzx_no rfl h)
    have h := h hle
    have hlp4 := w_l_le hlp4 hle
    have hlp5 := w_l_le hlp5 hle
    refine kz_ic (M := kt_M40) 1 kX9_options_c3.2.2.2.2.2.2.1 rfl ?_
    refine kz_isub (M := kt_M40) kX9_options_c3.2.2.2.2.2.2.2.1 ?_
    refine kz_nz1 (x := x2) hxp5 ?_
    refine kz_pfi (M := kt_M40) (c := 14) (o := p5) kX9_options_c4.1 wq_X9_312 (.inr (by exact hlp5)) ?_
    refine kz_aload_nv (M := kt_M40) (x := x3) kX9_options_c4.2.1 rfl ?_
    refine kz_nz0 (x := x3) hxp4 ?_
    refine kz_gfpR (M := kt_M40) (c := 14) (o := p4) (w_p w8 14 p4 7) kX9_options_c4.2.2.1 wf_X9_129 (.inr (by exact hlp4)) rd_p_i ?_
    refine kz_stv_n (M := kt_M40) (x := w_p w8 14 p4 7) [(0, .ref (w_adr E.2.1 8 0)), (1, va_rf (x1)), (2, va_rf (x2))] kX9_options_c4.2.2.2.1 (Nat.le_of_ble_eq_true rfl) ⟨⟨rfl, rfl, .inl rfl⟩, ⟨⟨rfl, rfl, .inl rfl⟩, ⟨⟨rfl, rfl, .inr (w_cat (x2))⟩, trivial⟩⟩⟩ rfl ?_
    refine kz_goto (M := kt_M40) kX9_options_c4.2.2.2.2.1 (t := 32) rfl ?_
    exact kz_weak [(0, .ref (w_adr E.2.1 8 0)), (1, va_rf (x1)), (2, va_rf (x2)), (3, va_rf (w_p w8 14 p4 7))] ⟨rfl, ⟨rfl, ⟨rfl, ⟨rfl, trivial⟩⟩⟩⟩ rfl h
def zb_X9_options_p18 (E : zE) (L : Nat) (Q : kx_Rs → wS → Prop) (x1 : Option Nat) (x2 : Option Nat) (w : wS) : Prop := (if x2 = none then zw E (L - 22) kt_M25 [.ref (w_adr E.2.1 8 0), .int 33, .int 5] w (wk0 (fun w1 => wle w w1 → (∃ p3, x1 = some p3 ∧ w_l w1 E.2.1 14 p3 ∧ zL_X9_options_p139 E L Q (-1) (w_p w1 14 p3 4) w1)) (fun e w => Q (.inr e) w)) else (∃ p4, x2 = some p4 ∧ w_l w E.2.1 14 p4 ∧ zL_X9_options_p32 E L Q x1 x2 (w_p w 14 p4 3) (ws_i w 14 p4 19 (-1))))
theorem zt_X9_options_p18 {E : zE} {L : Nat} {Q : kx_Rs → wS → Prop} {x1 : Option Nat} {x2 : Option Nat} {w : wS} (hL : 23 ≤ L) (h : zb_X9_options_p18 E L Q x1 x2 w) : kzE E L kt_M40 18 [(0, .ref (w_adr E.2.1 8 0)), (1, va_rf (x1)), (2, va_rf (x2))] [] w Q := by
  unfold zb_X9_options_p18 at h
  refine kz_aload_nv (M := kt_M40) (x := x2) kX9_options_c1.2.2.1 rfl ?_
  refine kz_ifnull (M := kt_M40) (x := x2) kX9_options_c1.2.2.2.1 (t := 125) rfl h (fun h => ?_) (fun h => ?_)
  · skip
    refine kz_aload_n (M := kt_M40) kX9_options_c8.1 rfl ?_
    refine kz_bi (M := kt_M40) 33 kX9_options_c8.2.1 rfl ?_
    refine kz_ic (M := kt_M40) 5 kX9_options_c8.2.2.1 rfl ?_
    refine kz_cv0 (M := kt_M40) (c := 8) (o := 0) (As := [.int 33, .int 5]) (rest := []) kX9_options_c8.2.2.2.1 wl_X9_42 wMv_25 rfl (.inl rfl) rfl (Nat.le_trans (Nat.le_of_ble_eq_true rfl) hL) (Nat.le_of_ble_eq_true rfl) (Nat.le_of_ble_eq_true rfl) h (fun w1 hle h => ?_) (fun _ _ _ h => kzx_no rfl h)
    have h := h hle
    refine kz_ic (M := kt_M40) (-1) kX9_options_c8.2.2.2.2.1 rfl ?_
    refine kz_sti_n (M := kt_M40) [(0, .ref (w_adr E.2.1 8 0)), (1, va_rf (x1))] kX9_options_c8.2.2.2.2.2.1 (Nat.le_of_ble_eq_true rfl) ⟨⟨rfl, rfl, .inl rfl⟩, ⟨⟨rfl, rfl, .inr (w_cat (x1))⟩, trivial⟩⟩ rfl ?_
    refine kz_aload_nv (M := kt_M40) (x := x1) kX9_options_c8.2.2.2.2.2.2.1 rfl ?_
    obtain ⟨p3, hxp3, hlp3, h⟩ := h
    refine kz_nz0 (x := x1) hxp3 ?_
    refine kz_gfp (M := kt_M40) (c := 14) (o := p3) kX9_options_c8.2.2.2.2.2.2.2.1 wf_X9_112 (.inr (by exact hlp3)) ?_
    refine kz_stv_n (M := kt_M40) (x := w_p w1 14 p3 4) [(0, .ref (w_adr E.2.1 8 0)), (2, .int (-1))] kX9_options_c9.1 (Nat.le_of_ble_eq_true rfl) ⟨⟨rfl, rfl, .inl rfl⟩, ⟨⟨rfl, rfl, .inr rfl⟩, trivial⟩⟩ rfl ?_
    exact kz_weak [(0, .ref (w_adr E.2.1 8 0)), (2, .int (-1)), (3, va_rf (w_p w1 14 p3 4))] ⟨rfl, ⟨rfl, ⟨rfl, trivial⟩⟩⟩ rfl h
  · skip
    refine kz_aload_nv (M := kt_M40) (x := x2) kX9_options_c1.2.2.2.2.1 rfl ?_
    refine kz_ic (M := kt_M40) (-1) kX9_options_c1.2.2.2.2.2.1 rfl ?_
    obtain ⟨p4, hxp4, hlp4, h⟩ := h
    refine kz_nz1 (x := x2) hxp4 ?_
    refine kz_pfi (M := kt_M40) (c := 14) (o := p4) kX9_options_c1.2.2.2.2.2.2.1 wq_X9_312 (.inr (by exact hlp4)) ?_
    refine kz_aload_nv (M := kt_M40) (x := x2) kX9_options_c1.2.2.2.2.2.2.2.1 rfl ?_
    refine kz_nz0 (x := x2) hxp4 ?_
    refine kz_gfpR (M := kt_M40) (c := 14) (o := p4) (w_p w 14 p4 3) kX9_options_c2.1 wf_X9_93 (.inr (by exact hlp4)) rd_p_i ?_
    refine kz_stv_n (M := kt_M40) (x := w_p w 14 p4 3) [(0, .ref (w_adr E.2.1 8 0)), (1, va_rf (x1)), (2, va_rf (x2))] kX9_options_c2.2.1 (Nat.le_of_ble_eq_true rfl) ⟨⟨rfl, rfl, .inl rfl⟩, ⟨⟨rfl, rfl, .inl rfl⟩, ⟨⟨rfl, rfl, .inr (w_cat (x2))⟩, trivial⟩⟩⟩ rfl ?_
    exact kz_weak [(0, .ref (w_adr E.2.1 8 0)), (1, va_rf (x1)), (2, va_rf (x2)), (3, va_rf (w_p w 14 p4 3))] ⟨rfl, ⟨rfl, ⟨rfl, ⟨rfl, trivial⟩⟩⟩⟩ rfl h
def zb_X9_options_p0 (E : zE) (L : Nat) (Q : kx_Rs → wS → Prop) (x1 : Option Nat) (w : wS) : Prop := zw E (L - 21) kt_M15 [.ref (w_adr E.2.1 8 0), va_rf (x1)] w (wk0 (fun w1 => wle w w1 → (∃ p3, x1 = some p3 ∧ w_l w1 E.2.1 14 p3 ∧ zw E (L - 23) kt_M27 [.ref (w_adr E.2.1 8 0), va_rf (w_p w1 14 p3 3)] w1 (wk0 (fun w4 => wle w1 w4 → zL_X9_options_p18 E L Q x1 (w_p w4 14 p3 4) w4) (fun e w => Q (.inr e) w)))) (fun e w => Q (.inr e) w))
theorem zt_X9_options_p0 {E : zE} {L : Nat} {Q : kx_Rs → wS → Prop} {x1 : Option Nat} {w : wS} (hL : 23 ≤ L) (h : zb_X9_options_p0 E L Q x1 w) : kzE E L kt_M40 0 [(0, .ref (w_adr E.2.1 8 0)), (1, va_rf (x1))] [] w Q := by
  unfold zb_X9_options_p0 at h
  refine kz_aload_n (M := kt_M40) kX9_options_c0.1 rfl ?_
  refine kz_aload_nv (M := kt_M40) (x := x1) kX9_options_c0.2.1 rfl ?_
  refine kz_cv0 (M := kt_M40) (c := 8) (o := 0) (As := [va_rf (x1)]) (rest := []) kX9_options_c0.2.2.1 wl_X9_239 wMv_15 rfl (.inl rfl) rfl (Nat.le_trans (Nat.le_of_ble_eq_true rfl) hL) (by simp [lg_sl, w_cat, z_ci, z_cr, z_cl, z_cn, kt_M15]) (Nat.le_of_ble_eq_true rfl) h (fun w1 hle h => ?_) (fun _ _ _ h => kzx_no rfl h)
  have h := h hle
  refine kz_aload_n (M := kt_M40) kX9_options_c0.2.2.2.1 rfl ?_
  refine kz_aload_nv (M := kt_M40) (x := x1) kX9_options_c0.2.2.2.2.1 rfl ?_
  obtain ⟨p3, hxp3, hlp3, h⟩ := h
  refine kz_nz0 (x := x1) hxp3 ?_
  refine kz_gfp (M := kt_M40) (c := 14) (o := p3) kX9_options_c0.2.2.2.2.2.1 wf_X9_93 (.inr (by exact hlp3)) ?_
  refine kz_cv0 (M := kt_M40) (c := 8) (o := 0) (As := [va_rf (w_p w1 14 p3 3)]) (rest := []) kX9_options_c0.2.2.2.2.2.2.1 wl_X9_200 wMv_27 rfl (.inl rfl) rfl (Nat.le_trans (Nat.le_of_ble_eq_true rfl) hL) (by simp [lg_sl, w_cat, z_ci, z_cr, z_cl, z_cn, kt_M27]) (Nat.le_of_ble_eq_true rfl) h (fun w4 hle h => ?_) (fun _ _ _ h => kzx_no rfl h)
  have h := h hle
  have hlp3 := w_l_le hlp3 hle
  refine kz_aload_nv (M := kt_M40) (x := x1) kX9_options_c0.2.2.2.2.2.2.2.1 rfl ?_
  refine kz_nz0 (x := x1) hxp3 ?_
  refine kz_gfp (M := kt_M40) (c := 14) (o := p3) kX9_options_c1.1 wf_X9_112 (.inr (by exact hlp3)) ?_
  refine kz_stv_n (M := kt_M40) (x := w_p w4 14 p3 4) [(0, .ref (w_adr E.2.1 8 0)), (1, va_rf (x1))] kX9_options_c1.2.1 (Nat.le_of_ble_eq_true rfl) ⟨⟨rfl, rfl, .inl rfl⟩, ⟨⟨rfl, rfl, .inr (w_cat (x1))⟩, trivial⟩⟩ rfl ?_
  exact kz_weak [(0, .ref (w_adr E.2.1 8 0)), (1, va_rf (x1)), (2, va_rf (w_p w4 14 p3 4))] ⟨rfl, ⟨rfl, ⟨rfl, trivial⟩⟩⟩ rfl h
def zL_X9_alternation_p206 (E : zE) (L : Nat) (Q : kx_Rs → wS → Prop) (x5 : Int32) (x6 : Option Nat) (w : wS) : Prop := kzE E L kt_M17 206 [(0, .ref (w_adr E.2.1 8 0)), (5, .int x5), (6, va_rf (x6))] [] w Q
def zL_X9_alternation_p119 (E : zE) (L : Nat) (Q : kx_Rs → wS → Prop) (x1 : Option Nat) (x2 : Option Nat) (x3 : Int32) (x4 : Int32) (x5 : Option Nat) (w : wS) : Prop := kzE E L kt_M17 119 [(0, .ref (w_adr E.2.1 8 0)), (1, va_rf (x1)), (2, va_rf (x2)), (3, .int x3), (4, .int x4), (5, va_rf (x5))] [] w Q
def zb_X9_alternation_p282 (E : zE) (L : Nat) (Q : kx_Rs → wS → Prop) (x5 : Int32) (x6 : Option Nat) (w : wS) : Prop := zw E (L - 22) kt_M25 [.ref (w_adr E.2.1 8 0), .int 15, .int x5] w (wk0 (fun w1 => wle w w1 → zw E (L - 20) kt_M29 [.ref (w_adr E.2.1 8 0)] w1 (wk1 (fun v4 w3 => wle w1 w3 → (∃ p5, x6 = some p5 ∧ w_l w3 E.2.1 14 p5 ∧ zL_X9_alternation_p206 E L Q (v4 - 1) (w_p w3 14 p5 7) w3)) (fun e w => Q (.inr e) w))) (fun e w => Q (.inr e) w))
theorem zt_X9_alternation_p282 {E : zE} {L : Nat} {Q : kx_Rs → wS → Prop} {x5 : Int32} {x6 : Option Nat} {w : wS} (hL : 25 ≤ L) (h : zb_X9_alternation_p282 E L Q x5 x6 w) : kzE E L kt_M17 282 [(0, .ref (w_adr E.2.1 8 0)), (5, .int x5), (6, va_rf (x6))] [] w Q := by
  unfold zb_X9_alternation_p282 at h
  refine kz_aload_n (M := kt_M17) kX9_alternation_c17.2.2.2.2.2.2.1 rfl ?_
  refine kz_bi (M := kt_M17) 15 kX9_alternation_c17.2.2.2.2.2.2.2.1 rfl ?_
  refine kz_iload (M := kt_M17) kX9_alternation_c18.1 rfl ?_
  refine kz_cv0 (M := kt_M17) (c := 8) (o := 0) (As := [.int 15, .int x5]) (rest := []) kX9_alternation_c18.2.1 wl_X9_42 wMv_25 rfl (.inl rfl) rfl (Nat.le_trans (Nat.le_of_ble_eq_true rfl) hL) (Nat.le_of_ble_eq_true rfl) (Nat.le_of_ble_eq_true rfl) h (fun w1 hle h => ?_) (fun _ _ _ h => kzx_no rfl h)
  have h := h hle
  refine kz_aload_n (M := kt_M17) kX9_alternation_c18.2.2.1 rfl ?_
  refine kz_cv1 (M := kt_M17) (c := 8) (o := 0) (As := []) (rest := []) kX9_alternation_c18.2.2.2.1 wl_X9_46 wMv_29 rfl (.inl rfl) rfl (Nat.le_trans (Nat.le_of_ble_eq_true rfl) hL) (Nat.le_of_ble_eq_true rfl) (Nat.le_of_ble_eq_true rfl) h (fun v4 w3 hle h => ?_) (fun _ _ _ h => kzx_no rfl h)
  have h := h hle
  refine kz_ic (M := kt_M17) 1 kX9_alternation_c18.2.2.2.2.1 rfl ?_
  refine kz_isub (M := kt_M17) kX9_alternation_c18.2.2.2.2.2.1 ?_
  refine kz_sti (M := kt_M17) [(0, .ref (w_adr E.2.1 8 0)), (6, va_rf (x6))] kX9_alternation_c18.2.2.2.2.2.2.1 (Nat.le_of_ble_eq_true rfl) ⟨⟨rfl, rfl, .inl rfl⟩, ⟨⟨rfl, rfl, .inl rfl⟩, trivial⟩⟩ rfl ?_
  refine kz_aloadv (M := kt_M17) (x := x6) kX9_alternation_c18.2.2.2.2.2.2.2.1 rfl ?_
  obtain ⟨p5, hxp5, hlp5, h⟩ := h
  refine kz_nz0 (x := x6) hxp5 ?_
  refine kz_gfp (M := kt_M17) (c := 14) (o := p5) kX9_alternation_c19.1 wf_X9_129 (.inr (by exact hlp5)) ?_
  refine kz_stv (M := kt_M17) (x := w_p w3 14 p5 7) [(0, .ref (w_adr E.2.1 8 0)), (5, .int (v4 - 1))] kX9_alternation_c19.2.1 (Nat.le_of_ble_eq_true rfl) ⟨⟨rfl, rfl, .inl rfl⟩, ⟨⟨rfl, rfl, .inr rfl⟩, trivial⟩⟩ rfl ?_
  refine kz_goto (M := kt_M17) kX9_alternation_c19.2.2.1 (t := 206) rfl ?_
  exact kz_weak [(0, .ref (w_adr E.2.1 8 0)), (5, .int (v4 - 1)), (6, va_rf (w_p w3 14 p5 7))] ⟨rfl, ⟨rfl, ⟨rfl, trivial⟩⟩⟩ rfl h
def zb_X9_alternation_p252 (E : zE) (L : Nat) (Q : kx_Rs → wS → Prop) (x5 : Int32) (x6 : Option Nat) (w : wS) : Prop := (∃ p1, x6 = some p1 ∧ w_l w E.2.1 14 p1 ∧ (if ¬ w_i w 14 p1 10 = 3 then zw E (L - 22) kt_M46 [.ref (w_adr E.2.1 8 0), va_rf (w_p w 14 p1 6)] w (wk0 (fun w2 => wle w w2 → zb_X9_alternation_p282 E L Q x5 x6 w2) (fun e w => Q (.inr e) w)) else zw E (L - 25) kt_M52 [.ref (w_adr E.2.1 8 0), va_rf (w_p w 14 p1 4)] w (wk0 (fun w4 => wle w w4 → zb_X9_alternation_p282 E L Q x5 x6 w4) (fun e w => Q (.inr e) w))))
theorem zt_X9_alternation_p252 {E : zE} {L : Nat} {Q : kx_Rs → wS → Prop} {x5 : Int32} {x6 : Option Nat} {w : wS} (hL : 25 ≤ L) (h : zb_X9_alternation_p252 E L Q x5 x6 w) : kzE E L kt_M17 252 [(0, .ref (w_adr E.2.1 8 0)), (5, .int x5), (6, va_rf (x6))] [] w Q := by
  unfold zb_X9_alternation_p252 at h
  refine kz_aloadv (M := kt_M17) (x := x6) kX9_alternation_c16.2.1 rfl ?_
  obtain ⟨p1, hxp1, hlp1, h⟩ := h
  refine kz_nz0 (x := x6) hxp1 ?_
  refine kz_gfi (M := kt_M17) (c := 14) (o := p1) kX9_alternation_c16.2.2.1 wf_X9_318 (.inr (by exact hlp1)) ?_
  refine kz_ic (M := kt_M17) 3 kX9_alternation_c16.2.2.2.1 rfl ?_
  refine kz_icmp_ne (M := kt_M17) kX9_alternation_c16.2.2.2.2.1 (t := 273) rfl h (fun h => ?_) (fun h => ?_)
  · skip
    refine kz_aload_n (M := kt_M17) kX9_alternation_c17.2.2.1 rfl ?_
    refine kz_aloadv (M := kt_M17) (x := x6) kX9_alternation_c17.2.2.2.1 rfl ?_
    refine kz_nz0 (x := x6) hxp1 ?_
    refine kz_gfp (M := kt_M17) (c := 14) (o := p1) kX9_alternation_c17.2.2.2.2.1 wf_X9_227 (.inr (by exact hlp1)) ?_
    refine kz_cv0 (M := kt_M17) (c := 8) (o := 0) (As := [va_rf (w_p w 14 p1 6)]) (rest := []) kX9_alternation_c17.2.2.2.2.2.1 wl_X9_218 wMv_46 rfl (.inl rfl) rfl (Nat.le_trans (Nat.le_of_ble_eq_true rfl) hL) (by simp [lg_sl, w_cat, z_ci, z_cr, z_cl, z_cn, kt_M46]) (Nat.le_of_ble_eq_true rfl) h (fun w2 hle h => ?_) (fun _ _ _ h => kzx_no rfl h)
    have h := h hle
    have hlp1 := w_l_le hlp1 hle
    exact kz_weak [(0, .ref (w_adr E.2.1 8 0)), (5, .int x5), (6, va_rf (x6))] ⟨rfl, ⟨rfl, ⟨rfl, trivial⟩⟩⟩ rfl (zt_X9_alternation_p282 hL  h)
  · skip
    refine kz_aload_n (M := kt_M17) kX9_alternation_c16.2.2.2.2.2.1 rfl ?_
    refine kz_aloadv (M := kt_M17) (x := x6) kX9_alternation_c16.2.2.2.2.2.2.1 rfl ?_
    refine kz_nz0 (x := x6) hxp1 ?_
    refine kz_gfp (M := kt_M17) (c := 14) (o := p1) kX9_alternation_c16.2.2.2.2.2.2.2.1 wf_X9_112 (.inr (by exact hlp1)) ?_
    refine kz_cv0 (M := kt_M17) (c := 8) (o := 0) (As := [va_rf (w_p w 14 p1 4)]) (rest := []) kX9_alternation_c17.1 wl_X9_257 wMv_52 rfl (.inl rfl) rfl (Nat.le_trans (Nat.le_of_ble_eq_true rfl) hL) (by simp [lg_sl, w_cat, z_ci, z_cr, z_cl, z_cn, kt_M52]) (Nat.le_of_ble_eq_true rfl) h (fun w4 hle h => ?_) (fun _ _ _ h => kzx_no rfl h)
    have h := h hle
    have hlp1 := w_l_le hlp1 hle
    refine kz_goto (M := kt_M17) kX9_alternation_c17.2.1 (t := 282) rfl ?_
    exact kz_weak [(0, .ref (w_adr E.2.1 8 0)), (5, .int x5), (6, va_rf (x6))] ⟨rfl, ⟨rfl, ⟨rfl, trivial⟩⟩⟩ rfl (zt_X9_alternation_p282 hL  h)
def zb_X9_alternation_p206 (E : zE) (L : Nat) (Q : kx_Rs → wS → Prop) (x5 : Int32) (x6 : Option Nat) (w : wS) : Prop := (if x6 = none then zw E (L - 23) kt_M34 [.ref (w_adr E.2.1 8 0), .int x5] w (wk0 (fun w1 => wle w w1 → Q (.inl none) w1) (fun e w => Q (.inr e) w)) else (∃ p3, x6 = some p3 ∧ w_l w E.2.1 14 p3 ∧ zw E (L - 20) kt_M29 [.ref (w_adr E.2.1 8 0)] w (wk1 (fun v5 w4 => wle w w4 → zw E (L - 22) kt_M222 [.ref (w_adr E.2.1 9 0), .int (w_i w 14 p3 19), .int v5] w4 (wk0 (fun w6 => wle w4 w6 → zw E (L - 22) kt_M25 [.ref (w_adr E.2.1 8 0), .int 1, .int (w_i w6 14 p3 2)] w6 (wk0 (fun w8 => wle w6 w8 → (if ¬ w_i w8 14 p3 10 = 1 then zb_X9_alternation_p252 E L Q x5 x6 w8 else zw E (L - 22) kt_M31 [.ref (w_adr E.2.1 8 0), va_rf (x6)] w8 (wk0 (fun w10 => wle w8 w10 → zb_X9_alternation_p252 E L Q x5 x6 w10) (fun e w => Q (.inr e) w)))) (fun e w => Q (.inr e) w))) (fun e w => Q (.inr e) w))) (fun e w => Q (.inr e) w))))
theorem zt_X9_alternation_p206 {E : zE} {L : Nat} {Q : kx_Rs → wS → Prop} {x5 : Int32} {x6 : Option Nat} {w : wS} (hL : 25 ≤ L) (h : zb_X9_alternation_p206 E L Q x5 x6 w) : kzE E L kt_M17 206 [(0, .ref (w_adr E.2.1 8 0)), (5, .int x5), (6, va_rf (x6))] [] w Q := by
  unfold zb_X9_alternation_p206 at h
  refine kz_aloadv (M := kt_M17) (x := x6) kX9_alternation_c13.2.2.2.2.1 rfl ?_
  refine kz_ifnull (M := kt_M17) (x := x6) kX9_alternation_c13.2.2.2.2.2.1 (t := 308) rfl h (fun h => ?_) (fun h => ?_)
  · skip
    refine kz_aload_n (M := kt_M17) kX9_alternation_c19.2.2.2.1 rfl ?_
    refine kz_iload (M := kt_M17) kX9_alternation_c19.2.2.2.2.1 rfl ?_
    refine kz_cv0 (M := kt_M17) (c := 8) (o := 0) (As := [.int x5]) (rest := []) kX9_alternation_c19.2.2.2.2.2.1 wl_X9_300 wMv_34 rfl (.inl rfl) rfl (Nat.le_trans (Nat.le_of_ble_eq_true rfl) hL) (Nat.le_of_ble_eq_true rfl) (Nat.le_of_ble_eq_true rfl) h (fun w1 hle h => ?_) (fun _ _ _ h => kzx_no rfl h)
    have h := h hle
    exact kz_ret (M := kt_M17) kX9_alternation_c19.2.2.2.2.2.2.1 rfl h
  · skip
    refine kz_aload_n (M := kt_M17) kX9_alternation_c13.2.2.2.2.2.2.1 rfl ?_
    refine kz_gfc (M := kt_M17) (x := 36) (c := 8) (o := 0) kX9_alternation_c13.2.2.2.2.2.2.2.1 wf_X9_12 (.inl rfl) ?_
    refine kz_aloadv (M := kt_M17) (x := x6) kX9_alternation_c14.1 rfl ?_
    obtain ⟨p3, hxp3, hlp3, h⟩ := h
    refine kz_nz0 (x := x6) hxp3 ?_
    refine kz_gfi (M := kt_M17) (c := 14) (o := p3) kX9_alternation_c14.2.1 wf_X9_312 (.inr (by exact hlp3)) ?_
    refine kz_aload_n (M := kt_M17) kX9_alternation_c14.2.2.1 rfl ?_
    refine kz_cv1 (M := kt_M17) (c := 8) (o := 0) (As := []) (rest := [.int (w_i w 14 p3 19), .ref (w_adr E.2.1 9 0)]) kX9_alternation_c14.2.2.2.1 wl_X9_46 wMv_29 rfl (.inl rfl) rfl (Nat.le_trans (Nat.le_of_ble_eq_true rfl) hL) (Nat.le_of_ble_eq_true rfl) (Nat.le_of_ble_eq_true rfl) h (fun v5 w4 hle h => ?_) (fun _ _ _ h => kzx_no rfl h)
    have h := h hle
    have hlp3 := w_l_le hlp3 hle
    refine kz_cv0 (M := kt_M17) (c := 9) (o := 0) (As := [.int (w_i w 14 p3 19), .int v5]) (rest := []) kX9_alternation_c14.2.2.2.2.1 wl_X9_50 wMv_222 rfl (.inl rfl) rfl (Nat.le_trans (Nat.le_of_ble_eq_true rfl) hL) (Nat.le_of_ble_eq_true rfl) (Nat.le_of_ble_eq_true rfl) h (fun w6 hle h => ?_) (fun _ _ _ h => kzx_no rfl h)
    have h := h hle
    have hlp3 := w_l_le hlp3 hle
    refine kz_aload_n (M := kt_M17) kX9_alternation_c14.2.2.2.2.2.1 rfl ?_
    refine kz_ic (M := kt_M17) 1 kX9_alternation_c14.2.2.2.2.2.2.1 rfl ?_
    refine kz_aloadv (M := kt_M17) (x := x6) kX9_alternation_c14.2.2.2.2.2.2.2.1 rfl ?_
    refine kz_nz0 (x := x6) hxp3 ?_
    refine kz_gfi (M := kt_M17) (c := 14) (o := p3) kX9_alternation_c15.1 wf_X9_166 (.inr (by exact hlp3)) ?_
    refine kz_cv0 (M := kt_M17) (c := 8) (o := 0) (As := [.int 1, .int (w_i w6 14 p3 2)]) (rest := []) kX9_alternation_c15.2.1 wl_X9_42 wMv_25 rfl (.inl rfl) rfl (Nat.le_trans (Nat.le_of_ble_eq_true rfl) hL) (Nat.le_of_ble_eq_true rfl) (Nat.le_of_ble_eq_true rfl) h (fun w8 hle h => ?_) (fun _ _ _ h => kzx_no rfl h)
    have h := h hle
    have hlp3 := w_l_le hlp3 hle
    refine kz_aloadv (M := kt_M17) (x := x6) kX9_alternation_c15.2.2.1 rfl ?_
    refine kz_nz0 (x := x6) hxp3 ?_
    refine kz_gfi (M := kt_M17) (c := 14) (o := p3) kX9_alternation_c15.2.2.2.1 wf_X9_318 (.inr (by exact hlp3)) ?_
    refine kz_ic (M := kt_M17) 1 kX9_alternation_c15.2.2.2.2.1 rfl ?_
    refine kz_icmp_ne (M := kt_M17) kX9_alternation_c15.2.2.2.2.2.1 (t := 252) rfl h (fun h => ?_) (fun h => ?_)
    · skip
      exact kz_weak [(0, .ref (w_adr E.2.1 8 0)), (5, .int x5), (6, va_rf (x6))] ⟨rfl, ⟨rfl, ⟨rfl, trivial⟩⟩⟩ rfl (zt_X9_alternation_p252 hL  h)
    · skip
      refine kz_aload_n (M := kt_M17) kX9_alternation_c15.2.2.2.2.2.2.1 rfl ?_
      refine kz_aloadv (M := kt_M17) (x := x6) kX9_alternation_c15.2.2.2.2.2.2.2.1 rfl ?_
      refine kz_cv0 (M := kt_M17) (c := 8) (o := 0) (As := [va_rf (x6)]) (rest := []) kX9_alternation_c16.1 wl_X9_254 wMv_31 rfl (.inl rfl) rfl (Nat.le_trans (Nat.le_of_ble_eq_true rfl) hL) (by simp [lg_sl, w_cat, z_ci, z_cr, z_cl, z_cn, kt_M31]) (Nat.le_of_ble_eq_true rfl) h (fun w10 hle h => ?_) (fun _ _ _ h => kzx_no rfl h)
      have h := h hle
      have hlp3 := w_l_le hlp3 hle
      exact kz_weak [(0, .ref (w_adr E.2.1 8 0)), (5, .int x5), (6, va_rf (x6))] ⟨rfl, ⟨rfl, ⟨rfl, trivial⟩⟩⟩ rfl (zt_X9_alternation_p252 hL  h)
def zb_X9_alternation_p194 (E : zE) (L : Nat) (Q : kx_Rs → wS → Prop) (x1 : Option Nat) (y0 : Int32) (y1 : Int32) (y2 : Int32) (w : wS) : Prop := zw E (L - 23) kt_M26 [.ref (w_adr E.2.1 8 0), .int y2, .int y1, .int y0] w (wk0 (fun w1 => wle w w1 → (∃ p3, x1 = some p3 ∧ w_l w1 E.2.1 14 p3 ∧ zL_X9_alternation_p206 E L Q (-1) (w_p w1 14 p3 4) w1)) (fun e w => Q (.inr e) w))
theorem zt_X9_alternation_p194 {E : zE} {L : Nat} {Q : kx_Rs → wS → Prop} {x1 : Option Nat} {y0 : Int32} {y1 : Int32} {y2 : Int32} {w : wS} (hL : 25 ≤ L) (h : zb_X9_alternation_p194 E L Q x1 y0 y1 y2 w) : kzE E L kt_M17 194 [(0, .ref (w_adr E.2.1 8 0)), (1, va_rf (x1))] [.int y0, .int y1, .int y2, .ref (w_adr E.2.1 8 0)] w Q := by
  unfold zb_X9_alternation_p194 at h
  refine kz_cv0 (M := kt_M17) (c := 8) (o := 0) (As := [.int y2, .int y1, .int y0]) (rest := []) kX9_alternation_c12.2.2.2.2.2.2.1 wl_X9_154 wMv_26 rfl (.inl rfl) rfl (Nat.le_trans (Nat.le_of_ble_eq_true rfl) hL) (Nat.le_of_ble_eq_true rfl) (Nat.le_of_ble_eq_true rfl) h (fun w1 hle h => ?_) (fun _ _ _ h => kzx_no rfl h)
  have h := h hle
  refine kz_ic (M := kt_M17) (-1) kX9_alternation_c12.2.2.2.2.2.2.2.1 rfl ?_
  refine kz_sti (M := kt_M17) [(0, .ref (w_adr E.2.1 8 0)), (1, va_rf (x1))] kX9_alternation_c13.1 (Nat.le_of_ble_eq_true rfl) ⟨⟨rfl, rfl, .inl rfl⟩, ⟨⟨rfl, rfl, .inl rfl⟩, trivial⟩⟩ rfl ?_
  refine kz_aload_nv (M := kt_M17) (x := x1) kX9_alternation_c13.2.1 rfl ?_
  obtain ⟨p3, hxp3, hlp3, h⟩ := h
  refine kz_nz0 (x := x1) hxp3 ?_
  refine kz_gfp (M := kt_M17) (c := 14) (o := p3) kX9_alternation_c13.2.2.1 wf_X9_112 (.inr (by exact hlp3)) ?_
  refine kz_stv (M := kt_M17) (x := w_p w1 14 p3 4) [(0, .ref (w_adr E.2.1 8 0)), (5, .int (-1))] kX9_alternation_c13.2.2.2.1 (Nat.le_of_ble_eq_true rfl) ⟨⟨rfl, rfl, .inl rfl⟩, ⟨⟨rfl, rfl, .inr rfl⟩, trivial⟩⟩ rfl ?_
  exact kz_weak [(0, .ref (w_adr E.2.1 8 0)), (5, .int (-1)), (6, va_rf (w_p w1 14 p3 4))] ⟨rfl, ⟨rfl, ⟨rfl, trivial⟩⟩⟩ rfl h
def zb_X9_alternation_p182 (E : zE) (L : Nat) (Q : kx_Rs → wS → Prop) (x1 : Option Nat) (x2 : Option Nat) (y0 : Int32) (y1 : Int32) (w : wS) : Prop := (if ¬ x2 = none then (∃ p1, x2 = some p1 ∧ w_l w E.2.1 15 p1 ∧ zb_X9_alternation_p194 E L Q x1 (w_i w 15 p1 21) y0 y1 w) else zb_X9_alternation_p194 E L Q x1 (-1) y0 y1 w)
theorem zt_X9_alternation_p182 {E : zE} {L : Nat} {Q : kx_Rs → wS → Prop} {x1 : Option Nat} {x2 : Option Nat} {y0 : Int32} {y1 : Int32} {w : wS} (hL : 25 ≤ L) (h : zb_X9_alternation_p182 E L Q x1 x2 y0 y1 w) : kzE E L kt_M17 182 [(0, .ref (w_adr E.2.1 8 0)), (1, va_rf (x1)), (2, va_rf (x2))] [.int y0, .int y1, .ref (w_adr E.2.1 8 0)] w Q := by
  unfold zb_X9_alternation_p182 at h
  refine kz_aload_nv (M := kt_M17) (x := x2) kX9_alternation_c12.1 rfl ?_
  refine kz_ifnonnull (M := kt_M17) (x := x2) kX9_alternation_c12.2.1 (t := 190) rfl h (fun h => ?_) (fun h => ?_)
  · skip
    refine kz_aload_nv (M := kt_M17) (x := x2) kX9_alternation_c12.2.2.2.2.1 rfl ?_
    obtain ⟨p1, hxp1, hlp1, h⟩ := h
    refine kz_nz0 (x := x2) hxp1 ?_
    refine kz_gfi (M := kt_M17) (c := 15) (o := p1) kX9_alternation_c12.2.2.2.2.2.1 wf_X9_119 (.inr (by exact hlp1)) ?_
    exact kz_weak [(0, .ref (w_adr E.2.1 8 0)), (1, va_rf (x1))] ⟨rfl, ⟨rfl, trivial⟩⟩ rfl (zt_X9_alternation_p194 hL  h)
  · skip
    refine kz_ic (M := kt_M17) (-1) kX9_alternation_c12.2.2.1 rfl ?_
    refine kz_goto (M := kt_M17) kX9_alternation_c12.2.2.2.1 (t := 194) rfl ?_
    exact kz_weak [(0, .ref (w_adr E.2.1 8 0)), (1, va_rf (x1))] ⟨rfl, ⟨rfl, trivial⟩⟩ rfl (zt_X9_alternation_p194 hL  h)
def zb_X9_alternation_p158 (E : zE) (L : Nat) (Q : kx_Rs → wS → Prop) (x1 : Option Nat) (x2 : Option Nat) (w : wS) : Prop := (∃ p1, x1 = some p1 ∧ w_l w E.2.1 14 p1 ∧ zw E (L - 22) kt_M25 [.ref (w_adr E.2.1 8 0), .int 1, .int (w_i w 14 p1 2)] w (wk0 (fun w2 => wle w w2 → (if w_i w2 14 p1 11 = 0 then zb_X9_alternation_p182 E L Q x1 x2 0 42 w2 else zb_X9_alternation_p182 E L Q x1 x2 1 42 w2)) (fun e w => Q (.inr e) w)))
theorem zt_X9_alternation_p158 {E : zE} {L : Nat} {Q : kx_Rs → wS → Prop} {x1 : Option Nat} {x2 : Option Nat} {w : wS} (hL : 25 ≤ L) (h : zb_X9_alternation_p158 E L Q x1 x2 w) : kzE E L kt_M17 158 [(0, .ref (w_adr E.2.1 8 0)), (1, va_rf (x1)), (2, va_rf (x2))] [] w Q := by
  unfold zb_X9_alternation_p158 at h
  refine kz_aload_n (M := kt_M17) kX9_alternation_c10.2.2.2.1 rfl ?_
  refine kz_ic (M := kt_M17) 1 kX9_alternation_c10.2.2.2.2.1 rfl ?_
  refine kz_aload_nv (M := kt_M17) (x := x1) kX9_alternation_c10.2.2.2.2.2.1 rfl ?_
  obtain ⟨p1, hxp1, hlp1, h⟩ := h
  refine kz_nz0 (x := x1) hxp1 ?_
  refine kz_gfi (M := kt_M17) (c := 14) (o := p1) kX9_alternation_c10.2.2.2.2.2.2.1 wf_X9_166 (.inr (by exact hlp1)) ?_
  refine kz_cv0 (M := kt_M17) (c := 8) (o := 0) (As := [.int 1, .int (w_i w 14 p1 2)]) (rest := []) kX9_alternation_c10.2.2.2.2.2.2.2.1 wl_X9_42 wMv_25 rfl (.inl rfl) rfl (Nat.le_trans (Nat.le_of_ble_eq_true rfl) hL) (Nat.le_of_ble_eq_true rfl) (Nat.le_of_ble_eq_true rfl) h (fun w2 hle h => ?_) (fun _ _ _ h => kzx_no rfl h)
  have h := h hle
  have hlp1 := w_l_le hlp1 hle
  refine kz_aload_n (M := kt_M17) kX9_alternation_c11.1 rfl ?_
  refine kz_bi (M := kt_M17) 42 kX9_alternation_c11.2.1 rfl ?_
  refine kz_aload_nv (M := kt_M17) (x := x1) kX9_alternation_c11.2.2.1 rfl ?_
  refine kz_nz0 (x := x1) hxp1 ?_
  refine kz_gfi (M := kt_M17) (c := 14) (o := p1) kX9_alternation_c11.2.2.2.1 wf_X9_221 (.inr (by exact hlp1)) ?_
  refine kz_if_eq (M := kt_M17) kX9_alternation_c11.2.2.2.2.1 (t := 181) rfl h (fun h => ?_) (fun h => ?_)
  · skip
    refine kz_ic (M := kt_M17) 0 kX9_alternation_c11.2.2.2.2.2.2.2.1 rfl ?_
    exact kz_weak [(0, .ref (w_adr E.2.1 8 0)), (1, va_rf (x1)), (2, va_rf (x2))] ⟨rfl, ⟨rfl, ⟨rfl, trivial⟩⟩⟩ rfl (zt_X9_alternation_p182 hL  h)
  · skip
    refine kz_ic (M := kt_M17) 1 kX9_alternation_c11.2.2.2.2.2.1 rfl ?_
    refine kz_goto (M := kt_M17) kX9_alternation_c11.2.2.2.2.2.2.1 (t := 182) rfl ?_
    exact kz_weak [(0, .ref (w_adr E.2.1 8 0)), (1, va_rf (x1)), (2, va_rf (x2))] ⟨rfl, ⟨rfl, ⟨rfl, trivial⟩⟩⟩ rfl (zt_X9_alternation_p182 hL  h)
def zb_X9_alternation_p119 (E : zE) (L : Nat) (Q : kx_Rs → wS → Prop) (x1 : Option Nat) (x2 : Option Nat) (x3 : Int32) (x4 : Int32) (x5 : Option Nat) (w : wS) : Prop := (if x5 = none then (if x2 = none then zb_X9_alternation_p158 E L Q x1 x2 w else zw E (L - 22) kt_M25 [.ref (w_adr E.2.1 8 0), .int 15, .int x3] w (wk0 (fun w1 => wle w w1 → zw E (L - 21) kt_M33 [.ref (w_adr E.2.1 8 0), .int x4] w1 (wk0 (fun w3 => wle w1 w3 → zb_X9_alternation_p158 E L Q x1 x2 w3) (fun e w => Q (.inr e) w))) (fun e w => Q (.inr e) w))) else zw E (L - 25) kt_M37 [.ref (w_adr E.2.1 8 0), va_rf (x5), va_rf (x2)] w (wk0 (fun w5 => wle w w5 → (∃ p7, x5 = some p7 ∧ w_l w5 E.2.1 14 p7 ∧ zL_X9_alternation_p119 E L Q x1 x2 x3 x4 (w_p w5 14 p7 7) w5)) (fun e w => Q (.inr e) w)))
theorem zt_X9_alternation_p119 {E : zE} {L : Nat} {Q : kx_Rs → wS → Prop} {x1 : Option Nat} {x2 : Option Nat} {x3 : Int32} {x4 : Int32} {x5 : Option Nat} {w : wS} (hL : 25 ≤ L) (h : zb_X9_alternation_p119 E L Q x1 x2 x3 x4 x5 w) : kzE E L kt_M17 119 [(0, .ref (w_adr E.2.1 8 0)), (1, va_rf (x1)), (2, va_rf (x2)), (3, .int x3), (4, .int x4), (5, va_rf (x5))] [] w Q := by
  unfold zb_X9_alternation_p119 at h
  refine kz_aloadv (M := kt_M17) (x := x5) kX9_alternation_c8.1 rfl ?_
  refine kz_ifnull (M := kt_M17) (x := x5) kX9_alternation_c8.2.1 (t := 141) rfl h (fun h => ?_) (fun h => ?_)
  · skip
    refine kz_aload_nv (M := kt_M17) (x := x2) kX9_alternation_c9.2.2.1 rfl ?_
    refine kz_ifnull (M := kt_M17) (x := x2) kX9_alternation_c9.2.2.2.1 (t := 158) rfl h (fun h => ?_) (fun h => ?_)
    · skip
      exact kz_weak [(0, .ref (w_adr E.2.1 8 0)), (1, va_rf (x1)), (2, va_rf (x2))] ⟨rfl, ⟨rfl, ⟨rfl, trivial⟩⟩⟩ rfl (zt_X9_alternation_p158 hL  h)
    · skip
      refine kz_aload_n (M := kt_M17) kX9_alternation_c9.2.2.2.2.1 rfl ?_
      refine kz_bi (M := kt_M17) 15 kX9_alternation_c9.2.2.2.2.2.1 rfl ?_
      refine kz_iload_n (M := kt_M17) kX9_alternation_c9.2.2.2.2.2.2.1 rfl ?_
      refine kz_cv0 (M := kt_M17) (c := 8) (o := 0) (As := [.int 15, .int x3]) (rest := []) kX9_alternation_c9.2.2.2.2.2.2.2.1 wl_X9_42 wMv_25 rfl (.inl rfl) rfl (Nat.le_trans (Nat.le_of_ble_eq_true rfl) hL) (Nat.le_of_ble_eq_true rfl) (Nat.le_of_ble_eq_true rfl) h (fun w1 hle h => ?_) (fun _ _ _ h => kzx_no rfl h)
      have h := h hle
      refine kz_aload_n (M := kt_M17) kX9_alternation_c10.1 rfl ?_
      refine kz_iload (M := kt_M17) kX9_alternation_c10.2.1 rfl ?_
      refine kz_cv0 (M := kt_M17) (c := 8) (o := 0) (As := [.int x4]) (rest := []) kX9_alternation_c10.2.2.1 wl_X9_236 wMv_33 rfl (.inl rfl) rfl (Nat.le_trans (Nat.le_of_ble_eq_true rfl) hL) (Nat.le_of_ble_eq_true rfl) (Nat.le_of_ble_eq_true rfl) h (fun w3 hle h => ?_) (fun _ _ _ h => kzx_no rfl h)
      have h := h hle
      exact kz_weak [(0, .ref (w_adr E.2.1 8 0)), (1, va_rf (x1)), (2, va_rf (x2))] ⟨rfl, ⟨rfl, ⟨rfl, trivial⟩⟩⟩ rfl (zt_X9_alternation_p158 hL  h)
  · skip
    refine kz_aload_n (M := kt_M17) kX9_alternation_c8.2.2.1 rfl ?_
    refine kz_aloadv (M := kt_M17) (x := x5) kX9_alternation_c8.2.2.2.1 rfl ?_
    refine kz_aload_nv (M := kt_M17) (x := x2) kX9_alternation_c8.2.2.2.2.1 rfl ?_
    refine kz_cv0 (M := kt_M17) (c := 8) (o := 0) (As := [va_rf (x5), va_rf (x2)]) (rest := []) kX9_alternation_c8.2.2.2.2.2.1 wl_X9_314 wMv_37 rfl (.inl rfl) rfl (Nat.le_trans (Nat.le_of_ble_eq_true rfl) hL) (by simp [lg_sl, w_cat, z_ci, z_cr, z_cl, z_cn, kt_M37]) (Nat.le_of_ble_eq_true rfl) h (fun w5 hle h => ?_) (fun _ _ _ h => kzx_no rfl h)
    have h := h hle
    refine kz_aloadv (M := kt_M17) (x := x5) kX9_alternation_c8.2.2.2.2.2.2.1 rfl ?_
    obtain ⟨p7, hxp7, hlp7, h⟩ := h
    refine kz_nz0 (x := x5) hxp7 ?_
    refine kz_gfp (M := kt_M17) (c := 14) (o := p7) kX9_alternation_c8.2.2.2.2.2.2.2.1 wf_X9_129 (.inr (by exact hlp7)) ?_
    refine kz_stv (M := kt_M17) (x := w_p w5 14 p7 7) [(0, .ref (w_adr E.2.1 8 0)), (1, va_rf (x1)), (2, va_rf (x2)), (3, .int x3), (4, .int x4)] kX9_alternation_c9.1 (Nat.le_of_ble_eq_true rfl) ⟨⟨rfl, rfl, .inl rfl⟩, ⟨⟨rfl, rfl, .inl rfl⟩, ⟨⟨rfl, rfl, .inl rfl⟩, ⟨⟨rfl, rfl, .inl rfl⟩, ⟨⟨rfl, rfl, .inr rfl⟩, trivial⟩⟩⟩⟩⟩ rfl ?_
    refine kz_goto (M := kt_M17) kX9_alternation_c9.2.1 (t := 119) rfl ?_
    exact kz_weak [(0, .ref (w_adr E.2.1 8 0)), (1, va_rf (x1)), (2, va_rf (x2)), (3, .int x3), (4, .int x4), (5, va_rf (w_p w5 14 p7 7))] ⟨rfl, ⟨rfl, ⟨rfl, ⟨rfl, ⟨rfl, ⟨rfl, trivial⟩⟩⟩⟩⟩⟩ rfl h
def zb_X9_alternation_p113 (E : zE) (L : Nat) (Q : kx_Rs → wS → Prop) (x1 : Option Nat) (x2 : Option Nat) (x3 : Int32) (x4 : Int32) (w : wS) : Prop := (∃ p1, x1 = some p1 ∧ w_l w E.2.1 14 p1 ∧ zL_X9_alternation_p119 E L Q x1 x2 x3 x4 (w_p w 14 p1 4) w)
theorem zt_X9_alternation_p113 {E : zE} {L : Nat} {Q : kx_Rs → wS → Prop} {x1 : Option Nat} {x2 : Option Nat} {x3 : Int32} {x4 : Int32} {w : wS} (hL : 25 ≤ L) (h : zb_X9_alternation_p113 E L Q x1 x2 x3 x4 w) : kzE E L kt_M17 113 [(0, .ref (w_adr E.2.1 8 0)), (1, va_rf (x1)), (2, va_rf (x2)), (3, .int x3), (4, .int x4)] [] w Q := by
  unfold zb_X9_alternation_p113 at h
  refine kz_aload_nv (M := kt_M17) (x := x1) kX9_alternation_c7.2.2.2.2.2.1 rfl ?_
  obtain ⟨p1, hxp1, hlp1, h⟩ := h
  refine kz_nz0 (x := x1) hxp1 ?_
  refine kz_gfp (M := kt_M17) (c := 14) (o := p1) kX9_alternation_c7.2.2.2.2.2.2.1 wf_X9_112 (.inr (by exact hlp1)) ?_
  refine kz_stv (M := kt_M17) (x := w_p w 14 p1 4) [(0, .ref (w_adr E.2.1 8 0)), (1, va_rf (x1)), (2, va_rf (x2)), (3, .int x3), (4, .int x4)] kX9_alternation_c7.2.2.2.2.2.2.2.1 (Nat.le_of_ble_eq_true rfl) ⟨⟨rfl, rfl, .inl rfl⟩, ⟨⟨rfl, rfl, .inl rfl⟩, ⟨⟨rfl, rfl, .inl rfl⟩, ⟨⟨rfl, rfl, .inl rfl⟩, ⟨⟨rfl, rfl, .inr rfl⟩, trivial⟩⟩⟩⟩⟩ rfl ?_
  exact kz_weak [(0, .ref (w_adr E.2.1 8 0)), (1, va_rf (x1)), (2, va_rf (x2)), (3, .int x3), (4, .int x4), (5, va_rf (w_p w 14 p1 4))] ⟨rfl, ⟨rfl, ⟨rfl, ⟨rfl, ⟨rfl, ⟨rfl, trivial⟩⟩⟩⟩⟩⟩ rfl h
def zb_X9_alternation_p29 (E : zE) (L : Nat) (Q : kx_Rs → wS → Prop) (x1 : Option Nat) (y0 : Option Nat) (w : wS) : Prop := (if y0 = none then zb_X9_alternation_p113 E L Q x1 y0 (-1) (-1) w else zw E (L - 22) kt_M30 [.ref (w_adr E.2.1 8 0), va_rf (y0), .int 1] w (wk0 (fun w1 => wle w w1 → zw E (L - 22) kt_M50 [.ref (w_adr E.2.1 8 0), .int 1] w1 (wk1 (fun v4 w3 => wle w1 w3 → (∃ p5, y0 = some p5 ∧ w_l w3 E.2.1 15 p5 ∧ zw E (L - 22) kt_M25 [.ref (w_adr E.2.1 8 0), .int 2, .int (w_i w3 15 p5 22)] w3 (wk0 (fun w6 => wle w3 w6 → zw E (L - 22) kt_M25 [.ref (w_adr E.2.1 8 0), .int 2, .int (w_i w6 15 p5 23)] w6 (wk0 (fun w8 => wle w6 w8 → zw E (L - 23) kt_M26 [.ref (w_adr E.2.1 8 0), .int 19, .int (w_i w8 15 p5 21), .int v4] w8 (wk0 (fun w10 => wle w8 w10 → zw E (L - 20) kt_M29 [.ref (w_adr E.2.1 8 0)] w10 (wk1 (fun v13 w12 => wle w10 w12 → zw E (L - 23) kt_M26 [.ref (w_adr E.2.1 8 0), .int 20, .int (w_i w12 15 p5 21), .int v4] w12 (wk0 (fun w14 => wle w12 w14 → zw E (L - 20) kt_M29 [.ref (w_adr E.2.1 8 0)] w14 (wk1 (fun v17 w16 => wle w14 w16 → zw E (L - 22) kt_M219 [.ref (w_adr E.2.1 9 0), .int 0] w16 (wk0 (fun w18 => wle w16 w18 → zb_X9_alternation_p113 E L Q x1 y0 v13 v17 w18) (fun e w => Q (.inr e) w))) (fun e w => Q (.inr e) w))) (fun e w => Q (.inr e) w))) (fun e w => Q (.inr e) w))) (fun e w => Q (.inr e) w))) (fun e w => Q (.inr e) w))) (fun e w => Q (.inr e) w)))) (fun e w => Q (.inr e) w))) (fun e w => Q (.inr e) w)))
theorem zt_X9_alternation_p29 {E : zE} {L : Nat} {Q : kx_Rs → wS → Prop} {x1 : Option Nat} {y0 : Option Nat} {w : wS} (hL : 25 ≤ L) (h : zb_X9_alternation_p29 E L Q x1 y0 w) : kzE E L kt_M17 29 [(0, .ref (w_adr E.2.1 8 0)), (1, va_rf (x1))] [va_rf (y0)] w Q := by
  unfold zb_X9_alternation_p29 at h
  refine kz_stv_n (M := kt_M17) (x := y0) [(0, .ref (w_adr E.2.1 8 0)), (1, va_rf (x1))] kX9_alternation_c1.2.2.2.2.2.2.1 (Nat.le_of_ble_eq_true rfl) ⟨⟨rfl, rfl, .inl rfl⟩, ⟨⟨rfl, rfl, .inr (w_cat (x1))⟩, trivial⟩⟩ rfl ?_
  refine kz_ic (M := kt_M17) (-1) kX9_alternation_c1.2.2.2.2.2.2.2.1 rfl ?_
  refine kz_sti_n (M := kt_M17) [(0, .ref (w_adr E.2.1 8 0)), (1, va_rf (x1)), (2, va_rf (y0))] kX9_alternation_c2.1 (Nat.le_of_ble_eq_true rfl) ⟨⟨rfl, rfl, .inl rfl⟩, ⟨⟨rfl, rfl, .inl rfl⟩, ⟨⟨rfl, rfl, .inr (w_cat (y0))⟩, trivial⟩⟩⟩ rfl ?_
  refine kz_ic (M := kt_M17) (-1) kX9_alternation_c2.2.1 rfl ?_
  refine kz_sti (M := kt_M17) [(0, .ref (w_adr E.2.1 8 0)), (1, va_rf (x1)), (2, va_rf (y0)), (3, .int (-1))] kX9_alternation_c2.2.2.1 (Nat.le_of_ble_eq_true rfl) ⟨⟨rfl, rfl, .inl rfl⟩, ⟨⟨rfl, rfl, .inl rfl⟩, ⟨⟨rfl, rfl, .inl rfl⟩, ⟨⟨rfl, rfl, .inr rfl⟩, trivial⟩⟩⟩⟩ rfl ?_
  refine kz_aload_nv (M := kt_M17) (x := y0) kX9_alternation_c2.2.2.2.1 rfl ?_
  refine kz_ifnull (M := kt_M17) (x := y0) kX9_alternation_c2.2.2.2.2.1 (t := 113) rfl h (fun h => ?_) (fun h => ?_)
  · skip
    exact kz_weak [(0, .ref (w_adr E.2.1 8 0)), (1, va_rf (x1)), (2, va_rf (y0)), (3, .int (-1)), (4, .int (-1))] ⟨rfl, ⟨rfl, ⟨rfl, ⟨rfl, ⟨rfl, trivial⟩⟩⟩⟩⟩ rfl (zt_X9_alternation_p113 hL  h)
  · skip
    refine kz_aload_n (M := kt_M17) kX9_alternation_c2.2.2.2.2.2.1 rfl ?_
    refine kz_aload_nv (M := kt_M17) (x := y0) kX9_alternation_c2.2.2.2.2.2.2.1 rfl ?_
    refine kz_ic (M := kt_M17) 1 kX9_alternation_c2.2.2.2.2.2.2.2.1 rfl ?_
    refine kz_cv0 (M := kt_M17) (c := 8) (o := 0) (As := [va_rf (y0), .int 1]) (rest := []) kX9_alternation_c3.1 wl_X9_169 wMv_30 rfl (.inl rfl) rfl (Nat.le_trans (Nat.le_of_ble_eq_true rfl) hL) (by simp [lg_sl, w_cat, z_ci, z_cr, z_cl, z_cn, kt_M30]) (Nat.le_of_ble_eq_true rfl) h (fun w1 hle h => ?_) (fun _ _ _ h => kzx_no rfl h)
    have h := h hle
    refine kz_aload_n (M := kt_M17) kX9_alternation_c3.2.1 rfl ?_
    refine kz_ic (M := kt_M17) 1 kX9_alternation_c3.2.2.1 rfl ?_
    refine kz_cv1 (M := kt_M17) (c := 8) (o := 0) (As := [.int 1]) (rest := []) kX9_alternation_c3.2.2.2.1 wl_X9_148 wMv_50 rfl (.inl rfl) rfl (Nat.le_trans (Nat.le_of_ble_eq_true rfl) hL) (Nat.le_of_ble_eq_true rfl) (Nat.le_of_ble_eq_true rfl) h (fun v4 w3 hle h => ?_) (fun _ _ _ h => kzx_no rfl h)
    have h := h hle
    refine kz_sti (M := kt_M17) [(0, .ref (w_adr E.2.1 8 0)), (1, va_rf (x1)), (2, va_rf (y0))] kX9_alternation_c3.2.2.2.2.1 (Nat.le_of_ble_eq_true rfl) ⟨⟨rfl, rfl, .inl rfl⟩, ⟨⟨rfl, rfl, .inl rfl⟩, ⟨⟨rfl, rfl, .inl rfl⟩, trivial⟩⟩⟩ rfl ?_
    refine kz_aload_n (M := kt_M17) kX9_alternation_c3.2.2.2.2.2.1 rfl ?_
    refine kz_ic (M := kt_M17) 2 kX9_alternation_c3.2.2.2.2.2.2.1 rfl ?_
    refine kz_aload_nv (M := kt_M17) (x := y0) kX9_alternation_c3.2.2.2.2.2.2.2.1 rfl ?_
    obtain ⟨p5, hxp5, hlp5, h⟩ := h
    refine kz_nz0 (x := y0) hxp5 ?_
    refine kz_gfi (M := kt_M17) (c := 15) (o := p5) kX9_alternation_c4.1 wf_X9_309 (.inr (by exact hlp5)) ?_
    refine kz_cv0 (M := kt_M17) (c := 8) (o := 0) (As := [.int 2, .int (w_i w3 15 p5 22)]) (rest := []) kX9_alternation_c4.2.1 wl_X9_42 wMv_25 rfl (.inl rfl) rfl (Nat.le_trans (Nat.le_of_ble_eq_true rfl) hL) (Nat.le_of_ble_eq_true rfl) (Nat.le_of_ble_eq_true rfl) h (fun w6 hle h => ?_) (fun _ _ _ h => kzx_no rfl h)
    have h := h hle
    have hlp5 := w_l_le hlp5 hle
    refine kz_aload_n (M := kt_M17) kX9_alternation_c4.2.2.1 rfl ?_
    refine kz_ic (M := kt_M17) 2 kX9_alternation_c4.2.2.2.1 rfl ?_
    refine kz_aload_nv (M := kt_M17) (x := y0) kX9_alternation_c4.2.2.2.2.1 rfl ?_
    refine kz_nz0 (x := y0) hxp5 ?_
    refine kz_gfi (M := kt_M17) (c := 15) (o := p5) kX9_alternation_c4.2.2.2.2.2.1 wf_X9_306 (.inr (by exact hlp5)) ?_
    refine kz_cv0 (M := kt_M17) (c := 8) (o := 0) (As := [.int 2, .int (w_i w6 15 p5 23)]) (rest := []) kX9_alternation_c4.2.2.2.2.2.2.1 wl_X9_42 wMv_25 rfl (.inl rfl) rfl (Nat.le_trans (Nat.le_of_ble_eq_true rfl) hL) (Nat.le_of_ble_eq_true rfl) (Nat.le_of_ble_eq_true rfl) h (fun w8 hle h => ?_) (fun _ _ _ h => kzx_no rfl h)
    have h := h hle
    have hlp5 := w_l_le hlp5 hle
    refine kz_aload_n (M := kt_M17) kX9_alternation_c4.2.2.2.2.2.2.2.1 rfl ?_
    refine kz_bi (M := kt_M17) 19 kX9_alternation_c5.1 rfl ?_
    refine kz_aload_nv (M := kt_M17) (x := y0) kX9_alternation_c5.2.1 rfl ?_
    refine kz_nz0 (x := y0) hxp5 ?_
    refine kz_gfi (M := kt_M17) (c := 15) (o := p5) kX9_alternation_c5.2.2.1 wf_X9_119 (.inr (by exact hlp5)) ?_
    refine kz_iload (M := kt_M17) kX9_alternation_c5.2.2.2.1 rfl ?_
    refine kz_cv0 (M := kt_M17) (c := 8) (o := 0) (As := [.int 19, .int (w_i w8 15 p5 21), .int v4]) (rest := []) kX9_alternation_c5.2.2.2.2.1 wl_X9_154 wMv_26 rfl (.inl rfl) rfl (Nat.le_trans (Nat.le_of_ble_eq_true rfl) hL) (Nat.le_of_ble_eq_true rfl) (Nat.le_of_ble_eq_true rfl) h (fun w10 hle h => ?_) (fun _ _ _ h => kzx_no rfl h)
    have h := h hle
    have hlp5 := w_l_le hlp5 hle
    refine kz_aload_n (M := kt_M17) kX9_alternation_c5.2.2.2.2.2.1 rfl ?_
    refine kz_cv1 (M := kt_M17) (c := 8) (o := 0) (As := []) (rest := []) kX9_alternation_c5.2.2.2.2.2.2.1 wl_X9_46 wMv_29 rfl (.inl rfl) rfl (Nat.le_trans (Nat.le_of_ble_eq_true rfl) hL) (Nat.le_of_ble_eq_true rfl) (Nat.le_of_ble_eq_true rfl) h (fun v13 w12 hle h => ?_) (fun _ _ _ h => kzx_no rfl h)
    have h := h hle
    have hlp5 := w_l_le hlp5 hle
    refine kz_sti_n (M := kt_M17) [(0, .ref (w_adr E.2.1 8 0)), (1, va_rf (x1)), (2, va_rf (y0)), (5, .int v4)] kX9_alternation_c5.2.2.2.2.2.2.2.1 (Nat.le_of_ble_eq_true rfl) ⟨⟨rfl, rfl, .inl rfl⟩, ⟨⟨rfl, rfl, .inl rfl⟩, ⟨⟨rfl, rfl, .inr (w_cat (y0))⟩, ⟨⟨rfl, rfl, .inl rfl⟩, trivial⟩⟩⟩⟩ rfl ?_
    refine kz_aload_n (M := kt_M17) kX9_alternation_c6.1 rfl ?_
    refine kz_bi (M := kt_M17) 20 kX9_alternation_c6.2.1 rfl ?_
    refine kz_aload_nv (M := kt_M17) (x := y0) kX9_alternation_c6.2.2.1 rfl ?_
    refine kz_nz0 (x := y0) hxp5 ?_
    refine kz_gfi (M := kt_M17) (c := 15) (o := p5) kX9_alternation_c6.2.2.2.1 wf_X9_119 (.inr (by exact hlp5)) ?_
    refine kz_iload (M := kt_M17) kX9_alternation_c6.2.2.2.2.1 rfl ?_
    refine kz_cv0 (M := kt_M17) (c := 8) (o := 0) (As := [.int 20, .int (w_i w12 15 p5 21), .int v4]) (rest := []) kX9_alternation_c6.2.2.2.2.2.1 wl_X9_154 wMv_26 rfl (.inl rfl) rfl (Nat.le_trans (Nat.le_of_ble_eq_true rfl) hL) (Nat.le_of_ble_eq_true rfl) (Nat.le_of_ble_eq_true rfl) h (fun w14 hle h => ?_) (fun _ _ _ h => kzx_no rfl h)
    have h := h hle
    have hlp5 := w_l_le hlp5 hle
    refine kz_aload_n (M := kt_M17) kX9_alternation_c6.2.2.2.2.2.2.1 rfl ?_
    refine kz_cv1 (M := kt_M17) (c := 8) (o := 0) (As := []) (rest := []) kX9_alternation_c6.2.2.2.2.2.2.2.1 wl_X9_46 wMv_29 rfl (.inl rfl) rfl (Nat.le_trans (Nat.le_of_ble_eq_true rfl) hL) (Nat.le_of_ble_eq_true rfl) (Nat.le_of_ble_eq_true rfl) h (fun v17 w16 hle h => ?_) (fun _ _ _ h => kzx_no rfl h)
    have h := h hle
    have hlp5 := w_l_le hlp5 hle
    refine kz_sti (M := kt_M17) [(0, .ref (w_adr E.2.1 8 0)), (1, va_rf (x1)), (2, va_rf (y0)), (3, .int v13)] kX9_alternation_c7.1 (Nat.le_of_ble_eq_true rfl) ⟨⟨rfl, rfl, .inl rfl⟩, ⟨⟨rfl, rfl, .inl rfl⟩, ⟨⟨rfl, rfl, .inl rfl⟩, ⟨⟨rfl, rfl, .inr rfl⟩, trivial⟩⟩⟩⟩ rfl ?_
    refine kz_aload_n (M := kt_M17) kX9_alternation_c7.2.1 rfl ?_
    refine kz_gfc (M := kt_M17) (x := 36) (c := 8) (o := 0) kX9_alternation_c7.2.2.1 wf_X9_12 (.inl rfl) ?_
    refine kz_ic (M := kt_M17) 0 kX9_alternation_c7.2.2.2.1 rfl ?_
    refine kz_cv0 (M := kt_M17) (c := 9) (o := 0) (As := [.int 0]) (rest := []) kX9_alternation_c7.2.2.2.2.1 wl_X9_38 wMv_219 rfl (.inl rfl) rfl (Nat.le_trans (Nat.le_of_ble_eq_true rfl) hL) (Nat.le_of_ble_eq_true rfl) (Nat.le_of_ble_eq_true rfl) h (fun w18 hle h => ?_) (fun _ _ _ h => kzx_no rfl h)
    have h := h hle
    have hlp5 := w_l_le hlp5 hle
    exact kz_weak [(0, .ref (w_adr E.2.1 8 0)), (1, va_rf (x1)), (2, va_rf (y0)), (3, .int v13), (4, .int v17)] ⟨rfl, ⟨rfl, ⟨rfl, ⟨rfl, ⟨rfl, trivial⟩⟩⟩⟩⟩ rfl (zt_X9_alternation_p113 hL  h)
def zb_X9_alternation_p0 (E : zE) (L : Nat) (Q : kx_Rs → wS → Prop) (x1 : Option Nat) (w : wS) : Prop := zw E (L - 21) kt_M15 [.ref (w_adr E.2.1 8 0), va_rf (x1)] w (wk0 (fun w1 => wle w w1 → zw E (L - 21) kt_M24 [.ref (w_adr E.2.1 8 0), .int 40] w1 (wk0 (fun w3 => wle w1 w3 → (∃ p5, x1 = some p5 ∧ w_l w3 E.2.1 14 p5 ∧ (if ¬ (w_p w3 14 p5 3) = none then (∃ p6, w_p w3 14 p5 3 = some p6 ∧ w_l w3 E.2.1 14 p6 ∧ zb_X9_alternation_p29 E L Q x1 (w_p w3 14 p6 16) w3) else zb_X9_alternation_p29 E L Q x1 none w3))) (fun e w => Q (.inr e) w))) (fun e w => Q (.inr e) w))
theorem zt_X9_alternation_p0 {E : zE} {L : Nat} {Q : kx_Rs → wS → Prop} {x1 : Option Nat} {w : wS} (hL : 25 ≤ L) (h : zb_X9_alternation_p0 E L Q x1 w) : kzE E L kt_M17 0 [(0, .ref (w_adr E.2.1 8 0)), (1, va_rf (x1))] [] w Q := by
  unfold zb_X9_alternation_p0 at h
  refine kz_aload_n (M := kt_M17) kX9_alternation_c0.1 rfl ?_
  refine kz_aload_nv (M := kt_M17) (x := x1) kX9_alternation_c0.2.1 rfl ?_
  refine kz_cv0 (M := kt_M17) (c := 8) (o := 0) (As := [va_rf (x1)]) (rest := []) kX9_alternation_c0.2.2.1 wl_X9_239 wMv_15 rfl (.inl rfl) rfl (Nat.le_trans (Nat.le_of_ble_eq_true rfl) hL) (by simp [lg_sl, w_cat, z_ci, z_cr, z_cl, z_cn, kt_M15]) (Nat.le_of_ble_eq_true rfl) h (fun w1 hle h => ?_) (fun _ _ _ h => kzx_no rfl h)
  have h := h hle
  refine kz_aload_n (M := kt_M17) kX9_alternation_c0.2.2.2.1 rfl ?_
  refine kz_bi (M := kt_M17) 40 kX9_alternation_c0.2.2.2.2.1 rfl ?_
  refine kz_cv0 (M := kt_M17) (c := 8) (o := 0) (As := [.int 40]) (rest := []) kX9_alternation_c0.2.2.2.2.2.1 wl_X9_137 wMv_24 rfl (.inl rfl) rfl (Nat.le_trans (Nat.le_of_ble_eq_true rfl) hL) (Nat.le_of_ble_eq_true rfl) (Nat.le_of_ble_eq_true rfl) h (fun w3 hle h => ?_) (fun _ _ _ h => kzx_no rfl h)
  have h := h hle
  refine kz_aload_nv (M := kt_M17) (x := x1) kX9_alternation_c0.2.2.2.2.2.2.1 rfl ?_
  obtain ⟨p5, hxp5, hlp5, h⟩ := h
  refine kz_nz0 (x := x1) hxp5 ?_
  refine kz_gfp (M := kt_M17) (c := 14) (o := p5) kX9_alternation_c0.2.2.2.2.2.2.2.1 wf_X9_93 (.inr (by exact hlp5)) ?_
  refine kz_ifnonnull (M := kt_M17) (x := w_p w3 14 p5 3) kX9_alternation_c1.1 (t := 22) rfl h (fun h => ?_) (fun h => ?_)
  · skip
    refine kz_aload_nv (M := kt_M17) (x := x1) kX9_alternation_c1.2.2.2.1 rfl ?_
    refine kz_nz0 (x := x1) hxp5 ?_
    refine kz_gfp (M := kt_M17) (c := 14) (o := p5) kX9_alternation_c1.2.2.2.2.1 wf_X9_93 (.inr (by exact hlp5)) ?_
    obtain ⟨p6, hxp6, hlp6, h⟩ := h
    refine kz_nz0 (x := w_p w3 14 p5 3) hxp6 ?_
    refine kz_gfp (M := kt_M17) (c := 14) (o := p6) kX9_alternation_c1.2.2.2.2.2.1 wf_X9_115 (.inr (by exact hlp6)) ?_
    exact kz_weak [(0, .ref (w_adr E.2.1 8 0)), (1, va_rf (x1))] ⟨rfl, ⟨rfl, trivial⟩⟩ rfl (zt_X9_alternation_p29 hL  h)
  · skip
    refine kz_null (M := kt_M17) kX9_alternation_c1.2.1 ?_
    refine kz_goto (M := kt_M17) kX9_alternation_c1.2.2.1 (t := 29) rfl ?_
    exact kz_weak [(0, .ref (w_adr E.2.1 8 0)), (1, va_rf (x1))] ⟨rfl, ⟨rfl, trivial⟩⟩ rfl (zt_X9_alternation_p29 hL  h)
def zb_X9_look_p180 (E : zE) (L : Nat) (Q : kx_Rs → wS → Prop) (w : wS) : Prop := Q (.inl none) w
theorem zt_X9_look_p180 {E : zE} {L : Nat} {Q : kx_Rs → wS → Prop} {w : wS} (hL : 23 ≤ L) (h : zb_X9_look_p180 E L Q  w) : kzE E L kt_M37 180 [(0, .ref (w_adr E.2.1 8 0))] [] w Q := by
  unfold zb_X9_look_p180 at h
  exact kz_ret (M := kt_M37) kX9_look_c11.2.2.2.1 rfl h
def zb_X9_look_p151 (E : zE) (L : Nat) (Q : kx_Rs → wS → Prop) (x1 : Option Nat) (x3 : Int32) (y0 : Int32) (y1 : Int32) (y2 : Int32) (w : wS) : Prop := zw E (L - 23) kt_M26 [.ref (w_adr E.2.1 8 0), .int y2, .int y1, .int y0] w (wk0 (fun w1 => wle w w1 → zw E (L - 20) kt_M29 [.ref (w_adr E.2.1 8 0)] w1 (wk1 (fun v4 w3 => wle w1 w3 → (∃ p5, x1 = some p5 ∧ w_l w3 E.2.1 14 p5 ∧ zw E (L - 22) kt_M219 [.ref (w_adr E.2.1 9 0), .int 0] (ws_i w3 14 p5 19 v4) (wk0 (fun w6 => wle (ws_i w3 14 p5 19 v4) w6 → (if x3 = (-1) then zb_X9_look_p180 E L Q w6 else zw E (L - 21) kt_M33 [.ref (w_adr E.2.1 8 0), .int x3] w6 (wk0 (fun w8 => wle w6 w8 → zb_X9_look_p180 E L Q w8) (fun e w => Q (.inr e) w)))) (fun e w => Q (.inr e) w)))) (fun e w => Q (.inr e) w))) (fun e w => Q (.inr e) w))
theorem zt_X9_look_p151 {E : zE} {L : Nat} {Q : kx_Rs → wS → Prop} {x1 : Option Nat} {x3 : Int32} {y0 : Int32} {y1 : Int32} {y2 : Int32} {w : wS} (hL : 23 ≤ L) (h : zb_X9_look_p151 E L Q x1 x3 y0 y1 y2 w) : kzE E L kt_M37 151 [(0, .ref (w_adr E.2.1 8 0)), (1, va_rf (x1)), (3, .int x3)] [.int y0, .int y1, .int y2, .ref (w_adr E.2.1 8 0)] w Q := by
  unfold zb_X9_look_p151 at h
  refine kz_cv0 (M := kt_M37) (c := 8) (o := 0) (As := [.int y2, .int y1, .int y0]) (rest := []) kX9_look_c9.2.2.2.2.1 wl_X9_154 wMv_26 rfl (.inl rfl) rfl (Nat.le_trans (Nat.le_of_ble_eq_true rfl) hL) (Nat.le_of_ble_eq_true rfl) (Nat.le_of_ble_eq_true rfl) h (fun w1 hle h => ?_) (fun _ _ _ h => kzx_no rfl h)
  have h := h hle
  refine kz_aload_nv (M := kt_M37) (x := x1) kX9_look_c9.2.2.2.2.2.1 rfl ?_
  refine kz_aload_n (M := kt_M37) kX9_look_c9.2.2.2.2.2.2.1 rfl ?_
  refine kz_cv1 (M := kt_M37) (c := 8) (o := 0) (As := []) (rest := [va_rf (x1)]) kX9_look_c9.2.2.2.2.2.2.2.1 wl_X9_46 wMv_29 rfl (.inl rfl) rfl (Nat.le_trans (Nat.le_of_ble_eq_true rfl) hL) (Nat.le_of_ble_eq_true rfl) (by simp [kx_cat, w_cat, z_ci, z_cr, z_cl, z_cn]) h (fun v4 w3 hle h => ?_) (fun _ _ _ h => kzx_no rfl h)
  have h := h hle
  obtain ⟨p5, hxp5, hlp5, h⟩ := h
  refine kz_nz1 (x := x1) hxp5 ?_
  refine kz_pfi (M := kt_M37) (c := 14) (o := p5) kX9_look_c10.1 wq_X9_312 (.inr (by exact hlp5)) ?_
  refine kz_aload_n (M := kt_M37) kX9_look_c10.2.1 rfl ?_
  refine kz_gfc (M := kt_M37) (x := 36) (c := 8) (o := 0) kX9_look_c10.2.2.1 wf_X9_12 (.inl rfl) ?_
  refine kz_ic (M := kt_M37) 0 kX9_look_c10.2.2.2.1 rfl ?_
  refine kz_cv0 (M := kt_M37) (c := 9) (o := 0) (As := [.int 0]) (rest := []) kX9_look_c10.2.2.2.2.1 wl_X9_38 wMv_219 rfl (.inl rfl) rfl (Nat.le_trans (Nat.le_of_ble_eq_true rfl) hL) (Nat.le_of_ble_eq_true rfl) (Nat.le_of_ble_eq_true rfl) h (fun w6 hle h => ?_) (fun _ _ _ h => kzx_no rfl h)
  have h := h hle
  have hlp5 := w_l_le hlp5 hle
  refine kz_iload_n (M := kt_M37) kX9_look_c10.2.2.2.2.2.1 rfl ?_
  refine kz_ic (M := kt_M37) (-1) kX9_look_c10.2.2.2.2.2.2.1 rfl ?_
  refine kz_icmp_eq (M := kt_M37) kX9_look_c10.2.2.2.2.2.2.2.1 (t := 180) rfl h (fun h => ?_) (fun h => ?_)
  · skip
    exact kz_weak [(0, .ref (w_adr E.2.1 8 0))] ⟨rfl, trivial⟩ rfl (zt_X9_look_p180 hL  h)
  · skip
    refine kz_aload_n (M := kt_M37) kX9_look_c11.1 rfl ?_
    refine kz_iload_n (M := kt_M37) kX9_look_c11.2.1 rfl ?_
    refine kz_cv0 (M := kt_M37) (c := 8) (o := 0) (As := [.int x3]) (rest := []) kX9_look_c11.2.2.1 wl_X9_236 wMv_33 rfl (.inl rfl) rfl (Nat.le_trans (Nat.le_of_ble_eq_true rfl) hL) (Nat.le_of_ble_eq_true rfl) (Nat.le_of_ble_eq_true rfl) h (fun w8 hle h => ?_) (fun _ _ _ h => kzx_no rfl h)
    have h := h hle
    have hlp5 := w_l_le hlp5 hle
    exact kz_weak [(0, .ref (w_adr E.2.1 8 0))] ⟨rfl, trivial⟩ rfl (zt_X9_look_p180 hL  h)
def zb_X9_look_p134 (E : zE) (L : Nat) (Q : kx_Rs → wS → Prop) (x1 : Option Nat) (x2 : Option Nat) (x3 : Int32) (x5 : Int32) (w : wS) : Prop := (if ¬ x2 = none then (∃ p1, x2 = some p1 ∧ w_l w E.2.1 15 p1 ∧ zb_X9_look_p151 E L Q x1 x3 (w_i w 15 p1 21) x5 41 w) else zb_X9_look_p151 E L Q x1 x3 (-1) x5 41 w)
theorem zt_X9_look_p134 {E : zE} {L : Nat} {Q : kx_Rs → wS → Prop} {x1 : Option Nat} {x2 : Option Nat} {x3 : Int32} {x5 : Int32} {w : wS} (hL : 23 ≤ L) (h : zb_X9_look_p134 E L Q x1 x2 x3 x5 w) : kzE E L kt_M37 134 [(0, .ref (w_adr E.2.1 8 0)), (1, va_rf (x1)), (2, va_rf (x2)), (3, .int x3), (5, .int x5)] [] w Q := by
  unfold zb_X9_look_p134 at h
  refine kz_aload_n (M := kt_M37) kX9_look_c8.2.2.2.1 rfl ?_
  refine kz_bi (M := kt_M37) 41 kX9_look_c8.2.2.2.2.1 rfl ?_
  refine kz_iload (M := kt_M37) kX9_look_c8.2.2.2.2.2.1 rfl ?_
  refine kz_aload_nv (M := kt_M37) (x := x2) kX9_look_c8.2.2.2.2.2.2.1 rfl ?_
  refine kz_ifnonnull (M := kt_M37) (x := x2) kX9_look_c8.2.2.2.2.2.2.2.1 (t := 147) rfl h (fun h => ?_) (fun h => ?_)
  · skip
    refine kz_aload_nv (M := kt_M37) (x := x2) kX9_look_c9.2.2.1 rfl ?_
    obtain ⟨p1, hxp1, hlp1, h⟩ := h
    refine kz_nz0 (x := x2) hxp1 ?_
    refine kz_gfi (M := kt_M37) (c := 15) (o := p1) kX9_look_c9.2.2.2.1 wf_X9_119 (.inr (by exact hlp1)) ?_
    exact kz_weak [(0, .ref (w_adr E.2.1 8 0)), (1, va_rf (x1)), (3, .int x3)] ⟨rfl, ⟨rfl, ⟨rfl, trivial⟩⟩⟩ rfl (zt_X9_look_p151 hL  h)
  · skip
    refine kz_ic (M := kt_M37) (-1) kX9_look_c9.1 rfl ?_
    refine kz_goto (M := kt_M37) kX9_look_c9.2.1 (t := 151) rfl ?_
    exact kz_weak [(0, .ref (w_adr E.2.1 8 0)), (1, va_rf (x1)), (3, .int x3)] ⟨rfl, ⟨rfl, ⟨rfl, trivial⟩⟩⟩ rfl (zt_X9_look_p151 hL  h)
def zb_X9_look_p123 (E : zE) (L : Nat) (Q : kx_Rs → wS → Prop) (x1 : Option Nat) (x2 : Option Nat) (x3 : Int32) (x5 : Int32) (w : wS) : Prop := (if ¬ x5 = 0 then zb_X9_look_p134 E L Q x1 x2 x3 x5 w else zw E (L - 22) kt_M25 [.ref (w_adr E.2.1 8 0), .int 2, .int 0] w (wk0 (fun w1 => wle w w1 → zb_X9_look_p134 E L Q x1 x2 x3 x5 w1) (fun e w => Q (.inr e) w)))
theorem zt_X9_look_p123 {E : zE} {L : Nat} {Q : kx_Rs → wS → Prop} {x1 : Option Nat} {x2 : Option Nat} {x3 : Int32} {x5 : Int32} {w : wS} (hL : 23 ≤ L) (h : zb_X9_look_p123 E L Q x1 x2 x3 x5 w) : kzE E L kt_M37 123 [(0, .ref (w_adr E.2.1 8 0)), (1, va_rf (x1)), (2, va_rf (x2)), (3, .int x3), (5, .int x5)] [] w Q := by
  unfold zb_X9_look_p123 at h
  refine kz_iload (M := kt_M37) kX9_look_c7.2.2.2.2.2.1 rfl ?_
  refine kz_if_ne (M := kt_M37) kX9_look_c7.2.2.2.2.2.2.1 (t := 134) rfl h (fun h => ?_) (fun h => ?_)
  · skip
    exact kz_weak [(0, .ref (w_adr E.2.1 8 0)), (1, va_rf (x1)), (2, va_rf (x2)), (3, .int x3), (5, .int x5)] ⟨rfl, ⟨rfl, ⟨rfl, ⟨rfl, ⟨rfl, trivial⟩⟩⟩⟩⟩ rfl (zt_X9_look_p134 hL  h)
  · skip
    refine kz_aload_n (M := kt_M37) kX9_look_c7.2.2.2.2.2.2.2.1 rfl ?_
    refine kz_ic (M := kt_M37) 2 kX9_look_c8.1 rfl ?_
    refine kz_ic (M := kt_M37) 0 kX9_look_c8.2.1 rfl ?_
    refine kz_cv0 (M := kt_M37) (c := 8) (o := 0) (As := [.int 2, .int 0]) (rest := []) kX9_look_c8.2.2.1 wl_X9_42 wMv_25 rfl (.inl rfl) rfl (Nat.le_trans (Nat.le_of_ble_eq_true rfl) hL) (Nat.le_of_ble_eq_true rfl) (Nat.le_of_ble_eq_true rfl) h (fun w1 hle h => ?_) (fun _ _ _ h => kzx_no rfl h)
    have h := h hle
    exact kz_weak [(0, .ref (w_adr E.2.1 8 0)), (1, va_rf (x1)), (2, va_rf (x2)), (3, .int x3), (5, .int x5)] ⟨rfl, ⟨rfl, ⟨rfl, ⟨rfl, ⟨rfl, trivial⟩⟩⟩⟩⟩ rfl (zt_X9_look_p134 hL  h)
def zb_X9_look_p109 (E : zE) (L : Nat) (Q : kx_Rs → wS → Prop) (x1 : Option Nat) (x2 : Option Nat) (x3 : Int32) (x5 : Int32) (w : wS) : Prop := (if ¬ x5 = 2 then zb_X9_look_p123 E L Q x1 x2 x3 x5 w else (∃ p1, x1 = some p1 ∧ w_l w E.2.1 14 p1 ∧ zw E (L - 23) kt_M27 [.ref (w_adr E.2.1 8 0), va_rf (w_p w 14 p1 4)] w (wk0 (fun w2 => wle w w2 → zb_X9_look_p123 E L Q x1 x2 x3 x5 w2) (fun e w => Q (.inr e) w))))
theorem zt_X9_look_p109 {E : zE} {L : Nat} {Q : kx_Rs → wS → Prop} {x1 : Option Nat} {x2 : Option Nat} {x3 : Int32} {x5 : Int32} {w : wS} (hL : 23 ≤ L) (h : zb_X9_look_p109 E L Q x1 x2 x3 x5 w) : kzE E L kt_M37 109 [(0, .ref (w_adr E.2.1 8 0)), (1, va_rf (x1)), (2, va_rf (x2)), (3, .int x3), (5, .int x5)] [] w Q := by
  unfold zb_X9_look_p109 at h
  refine kz_iload (M := kt_M37) kX9_look_c6.2.2.2.2.2.2.1 rfl ?_
  refine kz_ic (M := kt_M37) 2 kX9_look_c6.2.2.2.2.2.2.2.1 rfl ?_
  refine kz_icmp_ne (M := kt_M37) kX9_look_c7.1 (t := 123) rfl h (fun h => ?_) (fun h => ?_)
  · skip
    exact kz_weak [(0, .ref (w_adr E.2.1 8 0)), (1, va_rf (x1)), (2, va_rf (x2)), (3, .int x3), (5, .int x5)] ⟨rfl, ⟨rfl, ⟨rfl, ⟨rfl, ⟨rfl, trivial⟩⟩⟩⟩⟩ rfl (zt_X9_look_p123 hL  h)
  · skip
    refine kz_aload_n (M := kt_M37) kX9_look_c7.2.1 rfl ?_
    refine kz_aload_nv (M := kt_M37) (x := x1) kX9_look_c7.2.2.1 rfl ?_
    obtain ⟨p1, hxp1, hlp1, h⟩ := h
    refine kz_nz0 (x := x1) hxp1 ?_
    refine kz_gfp (M := kt_M37) (c := 14) (o := p1) kX9_look_c7.2.2.2.1 wf_X9_112 (.inr (by exact hlp1)) ?_
    refine kz_cv0 (M := kt_M37) (c := 8) (o := 0) (As := [va_rf (w_p w 14 p1 4)]) (rest := []) kX9_look_c7.2.2.2.2.1 wl_X9_200 wMv_27 rfl (.inl rfl) rfl (Nat.le_trans (Nat.le_of_ble_eq_true rfl) hL) (by simp [lg_sl, w_cat, z_ci, z_cr, z_cl, z_cn, kt_M27]) (Nat.le_of_ble_eq_true rfl) h (fun w2 hle h => ?_) (fun _ _ _ h => kzx_no rfl h)
    have h := h hle
    have hlp1 := w_l_le hlp1 hle
    exact kz_weak [(0, .ref (w_adr E.2.1 8 0)), (1, va_rf (x1)), (2, va_rf (x2)), (3, .int x3), (5, .int x5)] ⟨rfl, ⟨rfl, ⟨rfl, ⟨rfl, ⟨rfl, trivial⟩⟩⟩⟩⟩ rfl (zt_X9_look_p123 hL  h)
def zb_X9_look_p93 (E : zE) (L : Nat) (Q : kx_Rs → wS → Prop) (x1 : Option Nat) (x2 : Option Nat) (x3 : Int32) (y0 : Int32) (w : wS) : Prop := (if ¬ y0 = 1 then zb_X9_look_p109 E L Q x1 x2 x3 y0 w else (∃ p1, x1 = some p1 ∧ w_l w E.2.1 14 p1 ∧ zw E (L - 22) kt_M44 [.ref (w_adr E.2.1 8 0), va_rf (w_p w 14 p1 3)] w (wk0 (fun w2 => wle w w2 → zb_X9_look_p109 E L Q x1 x2 x3 y0 w2) (fun e w => Q (.inr e) w))))
theorem zt_X9_look_p93 {E : zE} {L : Nat} {Q : kx_Rs → wS → Prop} {x1 : Option Nat} {x2 : Option Nat} {x3 : Int32} {y0 : Int32} {w : wS} (hL : 23 ≤ L) (h : zb_X9_look_p93 E L Q x1 x2 x3 y0 w) : kzE E L kt_M37 93 [(0, .ref (w_adr E.2.1 8 0)), (1, va_rf (x1)), (2, va_rf (x2)), (3, .int x3)] [.int y0] w Q := by
  unfold zb_X9_look_p93 at h
  refine kz_sti (M := kt_M37) [(0, .ref (w_adr E.2.1 8 0)), (1, va_rf (x1)), (2, va_rf (x2)), (3, .int x3)] kX9_look_c5.2.2.2.2.2.2.1 (Nat.le_of_ble_eq_true rfl) ⟨⟨rfl, rfl, .inl rfl⟩, ⟨⟨rfl, rfl, .inl rfl⟩, ⟨⟨rfl, rfl, .inl rfl⟩, ⟨⟨rfl, rfl, .inl rfl⟩, trivial⟩⟩⟩⟩ rfl ?_
  refine kz_iload (M := kt_M37) kX9_look_c5.2.2.2.2.2.2.2.1 rfl ?_
  refine kz_ic (M := kt_M37) 1 kX9_look_c6.1 rfl ?_
  refine kz_icmp_ne (M := kt_M37) kX9_look_c6.2.1 (t := 109) rfl h (fun h => ?_) (fun h => ?_)
  · skip
    exact kz_weak [(0, .ref (w_adr E.2.1 8 0)), (1, va_rf (x1)), (2, va_rf (x2)), (3, .int x3), (5, .int y0)] ⟨rfl, ⟨rfl, ⟨rfl, ⟨rfl, ⟨rfl, trivial⟩⟩⟩⟩⟩ rfl (zt_X9_look_p109 hL  h)
  · skip
    refine kz_aload_n (M := kt_M37) kX9_look_c6.2.2.1 rfl ?_
    refine kz_aload_nv (M := kt_M37) (x := x1) kX9_look_c6.2.2.2.1 rfl ?_
    obtain ⟨p1, hxp1, hlp1, h⟩ := h
    refine kz_nz0 (x := x1) hxp1 ?_
    refine kz_gfp (M := kt_M37) (c := 14) (o := p1) kX9_look_c6.2.2.2.2.1 wf_X9_93 (.inr (by exact hlp1)) ?_
    refine kz_cv0 (M := kt_M37) (c := 8) (o := 0) (As := [va_rf (w_p w 14 p1 3)]) (rest := []) kX9_look_c6.2.2.2.2.2.1 wl_X9_179 wMv_44 rfl (.inl rfl) rfl (Nat.le_trans (Nat.le_of_ble_eq_true rfl) hL) (by simp [lg_sl, w_cat, z_ci, z_cr, z_cl, z_cn, kt_M44]) (Nat.le_of_ble_eq_true rfl) h (fun w2 hle h => ?_) (fun _ _ _ h => kzx_no rfl h)
    have h := h hle
    have hlp1 := w_l_le hlp1 hle
    exact kz_weak [(0, .ref (w_adr E.2.1 8 0)), (1, va_rf (x1)), (2, va_rf (x2)), (3, .int x3), (5, .int y0)] ⟨rfl, ⟨rfl, ⟨rfl, ⟨rfl, ⟨rfl, trivial⟩⟩⟩⟩⟩ rfl (zt_X9_look_p109 hL  h)
def zb_X9_look_p76 (E : zE) (L : Nat) (Q : kx_Rs → wS → Prop) (x1 : Option Nat) (x2 : Option Nat) (x3 : Int32) (w : wS) : Prop := zb_X9_look_p93 E L Q x1 x2 x3 0 w
theorem zt_X9_look_p76 {E : zE} {L : Nat} {Q : kx_Rs → wS → Prop} {x1 : Option Nat} {x2 : Option Nat} {x3 : Int32} {w : wS} (hL : 23 ≤ L) (h : zb_X9_look_p76 E L Q x1 x2 x3 w) : kzE E L kt_M37 76 [(0, .ref (w_adr E.2.1 8 0)), (1, va_rf (x1)), (2, va_rf (x2)), (3, .int x3)] [] w Q := by
  unfold zb_X9_look_p76 at h
  refine kz_ic (M := kt_M37) 0 kX9_look_c4.2.2.2.2.2.1 rfl ?_
  refine kz_goto (M := kt_M37) kX9_look_c4.2.2.2.2.2.2.1 (t := 93) rfl ?_
  exact kz_weak [(0, .ref (w_adr E.2.1 8 0)), (1, va_rf (x1)), (2, va_rf (x2)), (3, .int x3)] ⟨rfl, ⟨rfl, ⟨rfl, ⟨rfl, trivial⟩⟩⟩⟩ rfl (zt_X9_look_p93 hL  h)
def zb_X9_look_p62 (E : zE) (L : Nat) (Q : kx_Rs → wS → Prop) (x1 : Option Nat) (x2 : Option Nat) (x3 : Int32) (y0 : Int32) (w : wS) : Prop := (∃ p1, x1 = some p1 ∧ w_l w E.2.1 14 p1 ∧ (if w_i w 14 p1 10 = 0 then zb_X9_look_p76 E L Q x1 x2 x3 w else (if y0 = 0 then (if ¬ w_i w 14 p1 10 = 2 then zb_X9_look_p93 E L Q x1 x2 x3 1 w else zb_X9_look_p93 E L Q x1 x2 x3 2 w) else zb_X9_look_p76 E L Q x1 x2 x3 w)))
theorem zt_X9_look_p62 {E : zE} {L : Nat} {Q : kx_Rs → wS → Prop} {x1 : Option Nat} {x2 : Option Nat} {x3 : Int32} {y0 : Int32} {w : wS} (hL : 23 ≤ L) (h : zb_X9_look_p62 E L Q x1 x2 x3 y0 w) : kzE E L kt_M37 62 [(0, .ref (w_adr E.2.1 8 0)), (1, va_rf (x1)), (2, va_rf (x2)), (3, .int x3)] [.int y0] w Q := by
  unfold zb_X9_look_p62 at h
  refine kz_sti (M := kt_M37) [(0, .ref (w_adr E.2.1 8 0)), (1, va_rf (x1)), (2, va_rf (x2)), (3, .int x3)] kX9_look_c3.2.2.2.2.2.2.2.1 (Nat.le_of_ble_eq_true rfl) ⟨⟨rfl, rfl, .inl rfl⟩, ⟨⟨rfl, rfl, .inl rfl⟩, ⟨⟨rfl, rfl, .inl rfl⟩, ⟨⟨rfl, rfl, .inr rfl⟩, trivial⟩⟩⟩⟩ rfl ?_
  refine kz_aload_nv (M := kt_M37) (x := x1) kX9_look_c4.1 rfl ?_
  obtain ⟨p1, hxp1, hlp1, h⟩ := h
  refine kz_nz0 (x := x1) hxp1 ?_
  refine kz_gfi (M := kt_M37) (c := 14) (o := p1) kX9_look_c4.2.1 wf_X9_318 (.inr (by exact hlp1)) ?_
  refine kz_if_eq (M := kt_M37) kX9_look_c4.2.2.1 (t := 76) rfl h (fun h => ?_) (fun h => ?_)
  · skip
    exact kz_weak [(0, .ref (w_adr E.2.1 8 0)), (1, va_rf (x1)), (2, va_rf (x2)), (3, .int x3)] ⟨rfl, ⟨rfl, ⟨rfl, ⟨rfl, trivial⟩⟩⟩⟩ rfl (zt_X9_look_p76 hL  h)
  · skip
    refine kz_iload (M := kt_M37) kX9_look_c4.2.2.2.1 rfl ?_
    refine kz_if_eq (M := kt_M37) kX9_look_c4.2.2.2.2.1 (t := 80) rfl h (fun h => ?_) (fun h => ?_)
    · skip
      refine kz_aload_nv (M := kt_M37) (x := x1) kX9_look_c4.2.2.2.2.2.2.2.1 rfl ?_
      refine kz_nz0 (x := x1) hxp1 ?_
      refine kz_gfi (M := kt_M37) (c := 14) (o := p1) kX9_look_c5.1 wf_X9_318 (.inr (by exact hlp1)) ?_
      refine kz_ic (M := kt_M37) 2 kX9_look_c5.2.1 rfl ?_
      refine kz_icmp_ne (M := kt_M37) kX9_look_c5.2.2.1 (t := 92) rfl h (fun h => ?_) (fun h => ?_)
      · skip
        refine kz_ic (M := kt_M37) 1 kX9_look_c5.2.2.2.2.2.1 rfl ?_
        exact kz_weak [(0, .ref (w_adr E.2.1 8 0)), (1, va_rf (x1)), (2, va_rf (x2)), (3, .int x3)] ⟨rfl, ⟨rfl, ⟨rfl, ⟨rfl, trivial⟩⟩⟩⟩ rfl (zt_X9_look_p93 hL  h)
      · skip
        refine kz_ic (M := kt_M37) 2 kX9_look_c5.2.2.2.1 rfl ?_
        refine kz_goto (M := kt_M37) kX9_look_c5.2.2.2.2.1 (t := 93) rfl ?_
        exact kz_weak [(0, .ref (w_adr E.2.1 8 0)), (1, va_rf (x1)), (2, va_rf (x2)), (3, .int x3)] ⟨rfl, ⟨rfl, ⟨rfl, ⟨rfl, trivial⟩⟩⟩⟩ rfl (zt_X9_look_p93 hL  h)
    · skip
      exact kz_weak [(0, .ref (w_adr E.2.1 8 0)), (1, va_rf (x1)), (2, va_rf (x2)), (3, .int x3)] ⟨rfl, ⟨rfl, ⟨rfl, ⟨rfl, trivial⟩⟩⟩⟩ rfl (zt_X9_look_p76 hL  h)
def zb_X9_look_p61 (E : zE) (L : Nat) (Q : kx_Rs → wS → Prop) (x1 : Option Nat) (x2 : Option Nat) (x3 : Int32) (w : wS) : Prop := zb_X9_look_p62 E L Q x1 x2 x3 0 w
theorem zt_X9_look_p61 {E : zE} {L : Nat} {Q : kx_Rs → wS → Prop} {x1 : Option Nat} {x2 : Option Nat} {x3 : Int32} {w : wS} (hL : 23 ≤ L) (h : zb_X9_look_p61 E L Q x1 x2 x3 w) : kzE E L kt_M37 61 [(0, .ref (w_adr E.2.1 8 0)), (1, va_rf (x1)), (2, va_rf (x2)), (3, .int x3)] [] w Q := by
  unfold zb_X9_look_p61 at h
  refine kz_ic (M := kt_M37) 0 kX9_look_c3.2.2.2.2.2.2.1 rfl ?_
  exact kz_weak [(0, .ref (w_adr E.2.1 8 0)), (1, va_rf (x1)), (2, va_rf (x2)), (3, .int x3)] ⟨rfl, ⟨rfl, ⟨rfl, ⟨rfl, trivial⟩⟩⟩⟩ rfl (zt_X9_look_p62 hL  h)
def zb_X9_look_p33 (E : zE) (L : Nat) (Q : kx_Rs → wS → Prop) (x1 : Option Nat) (x2 : Option Nat) (x3 : Int32) (w : wS) : Prop := (∃ p1, x1 = some p1 ∧ w_l w E.2.1 14 p1 ∧ (if ¬ w_i w 14 p1 10 = 1 then zb_X9_look_p61 E L Q x1 x2 x3 w else (∃ p2, w_p w 14 p1 3 = some p2 ∧ w_l w E.2.1 14 p2 ∧ (∃ p3, w_p w 14 p2 16 = some p3 ∧ w_l w E.2.1 15 p3 ∧ (if ¬ w_p w 15 p3 0 = some (E.1.1 58) then zb_X9_look_p61 E L Q x1 x2 x3 w else zb_X9_look_p62 E L Q x1 x2 x3 1 w)))))
theorem zt_X9_look_p33 {E : zE} {L : Nat} {Q : kx_Rs → wS → Prop} {x1 : Option Nat} {x2 : Option Nat} {x3 : Int32} {w : wS} (hL : 23 ≤ L) (h : zb_X9_look_p33 E L Q x1 x2 x3 w) : kzE E L kt_M37 33 [(0, .ref (w_adr E.2.1 8 0)), (1, va_rf (x1)), (2, va_rf (x2)), (3, .int x3)] [] w Q := by
  unfold zb_X9_look_p33 at h
  refine kz_aload_nv (M := kt_M37) (x := x1) kX9_look_c2.2.2.1 rfl ?_
  obtain ⟨p1, hxp1, hlp1, h⟩ := h
  refine kz_nz0 (x := x1) hxp1 ?_
  refine kz_gfi (M := kt_M37) (c := 14) (o := p1) kX9_look_c2.2.2.2.1 wf_X9_318 (.inr (by exact hlp1)) ?_
  refine kz_ic (M := kt_M37) 1 kX9_look_c2.2.2.2.2.1 rfl ?_
  refine kz_icmp_ne (M := kt_M37) kX9_look_c2.2.2.2.2.2.1 (t := 61) rfl h (fun h => ?_) (fun h => ?_)
  · skip
    exact kz_weak [(0, .ref (w_adr E.2.1 8 0)), (1, va_rf (x1)), (2, va_rf (x2)), (3, .int x3)] ⟨rfl, ⟨rfl, ⟨rfl, ⟨rfl, trivial⟩⟩⟩⟩ rfl (zt_X9_look_p61 hL  h)
  · skip
    refine kz_aload_nv (M := kt_M37) (x := x1) kX9_look_c2.2.2.2.2.2.2.1 rfl ?_
    refine kz_nz0 (x := x1) hxp1 ?_
    refine kz_gfp (M := kt_M37) (c := 14) (o := p1) kX9_look_c2.2.2.2.2.2.2.2.1 wf_X9_93 (.inr (by exact hlp1)) ?_
    obtain ⟨p2, hxp2, hlp2, h⟩ := h
    refine kz_nz0 (x := w_p w 14 p1 3) hxp2 ?_
    refine kz_gfp (M := kt_M37) (c := 14) (o := p2) kX9_look_c3.1 wf_X9_115 (.inr (by exact hlp2)) ?_
    obtain ⟨p3, hxp3, hlp3, h⟩ := h
    refine kz_nz0 (x := w_p w 14 p2 16) hxp3 ?_
    refine kz_gfp (M := kt_M37) (c := 15) (o := p3) kX9_look_c3.2.1 wf_X9_245 (.inr (by exact hlp3)) ?_
    refine kz_getsE (M := kt_M37) (v := va_rf (some (E.1.1 58))) kX9_look_c3.2.2.1 zs_X9_282 ?_
    refine kz_acmp_ne (M := kt_M37) (x := w_p w 15 p3 0) (y := some (E.1.1 58)) kX9_look_c3.2.2.2.1 (t := 61) rfl h (fun h => ?_) (fun h => ?_)
    · skip
      exact kz_weak [(0, .ref (w_adr E.2.1 8 0)), (1, va_rf (x1)), (2, va_rf (x2)), (3, .int x3)] ⟨rfl, ⟨rfl, ⟨rfl, ⟨rfl, trivial⟩⟩⟩⟩ rfl (zt_X9_look_p61 hL  h)
    · skip
      refine kz_ic (M := kt_M37) 1 kX9_look_c3.2.2.2.2.1 rfl ?_
      refine kz_goto (M := kt_M37) kX9_look_c3.2.2.2.2.2.1 (t := 62) rfl ?_
      exact kz_weak [(0, .ref (w_adr E.2.1 8 0)), (1, va_rf (x1)), (2, va_rf (x2)), (3, .int x3)] ⟨rfl, ⟨rfl, ⟨rfl, ⟨rfl, trivial⟩⟩⟩⟩ rfl (zt_X9_look_p62 hL  h)
def zb_X9_look_p0 (E : zE) (L : Nat) (Q : kx_Rs → wS → Prop) (x1 : Option Nat) (x2 : Option Nat) (w : wS) : Prop := (∃ p1, x1 = some p1 ∧ w_l w E.2.1 14 p1 ∧ zw E (L - 22) kt_M25 [.ref (w_adr E.2.1 8 0), .int 1, .int (w_i w 14 p1 2)] w (wk0 (fun w2 => wle w w2 → (if (w_p w2 14 p1 5) = none then zb_X9_look_p33 E L Q x1 x2 (-1) w2 else zw E (L - 23) kt_M27 [.ref (w_adr E.2.1 8 0), va_rf (w_p w2 14 p1 5)] w2 (wk0 (fun w4 => wle w2 w4 → zw E (L - 21) kt_M32 [.ref (w_adr E.2.1 8 0), .int 16] w4 (wk1 (fun v7 w6 => wle w4 w6 → zb_X9_look_p33 E L Q x1 x2 v7 w6) (fun e w => Q (.inr e) w))) (fun e w => Q (.inr e) w)))) (fun e w => Q (.inr e) w)))
theorem zt_X9_look_p0 {E : zE} {L : Nat} {Q : kx_Rs → wS → Prop} {x1 : Option Nat} {x2 : Option Nat} {w : wS} (hL : 23 ≤ L) (h : zb_X9_look_p0 E L Q x1 x2 w) : kzE E L kt_M37 0 [(0, .ref (w_adr E.2.1 8 0)), (1, va_rf (x1)), (2, va_rf (x2))] [] w Q := by
  unfold zb_X9_look_p0 at h
  refine kz_aload_n (M := kt_M37) kX9_look_c0.1 rfl ?_
  refine kz_ic (M := kt_M37) 1 kX9_look_c0.2.1 rfl ?_
  refine kz_aload_nv (M := kt_M37) (x := x1) kX9_look_c0.2.2.1 rfl ?_
  obtain ⟨p1, hxp1, hlp1, h⟩ := h
  refine kz_nz0 (x := x1) hxp1 ?_
  refine kz_gfi (M := kt_M37) (c := 14) (o := p1) kX9_look_c0.2.2.2.1 wf_X9_166 (.inr (by exact hlp1)) ?_
  refine kz_cv0 (M := kt_M37) (c := 8) (o := 0) (As := [.int 1, .int (w_i w 14 p1 2)]) (rest := []) kX9_look_c0.2.2.2.2.1 wl_X9_42 wMv_25 rfl (.inl rfl) rfl (Nat.le_trans (Nat.le_of_ble_eq_true rfl) hL) (Nat.le_of_ble_eq_true rfl) (Nat.le_of_ble_eq_true rfl) h (fun w2 hle h => ?_) (fun _ _ _ h => kzx_no rfl h)
  have h := h hle
  have hlp1 := w_l_le hlp1 hle
  refine kz_ic (M := kt_M37) (-1) kX9_look_c0.2.2.2.2.2.1 rfl ?_
  refine kz_sti_n (M := kt_M37) [(0, .ref (w_adr E.2.1 8 0)), (1, va_rf (x1)), (2, va_rf (x2))] kX9_look_c0.2.2.2.2.2.2.1 (Nat.le_of_ble_eq_true rfl) ⟨⟨rfl, rfl, .inl rfl⟩, ⟨⟨rfl, rfl, .inl rfl⟩, ⟨⟨rfl, rfl, .inr (w_cat (x2))⟩, trivial⟩⟩⟩ rfl ?_
  refine kz_aload_nv (M := kt_M37) (x := x1) kX9_look_c0.2.2.2.2.2.2.2.1 rfl ?_
  refine kz_nz0 (x := x1) hxp1 ?_
  refine kz_gfp (M := kt_M37) (c := 14) (o := p1) kX9_look_c1.1 wf_X9_224 (.inr (by exact hlp1)) ?_
  refine kz_ifnull (M := kt_M37) (x := w_p w2 14 p1 5) kX9_look_c1.2.1 (t := 33) rfl h (fun h => ?_) (fun h => ?_)
  · skip
    exact kz_weak [(0, .ref (w_adr E.2.1 8 0)), (1, va_rf (x1)), (2, va_rf (x2)), (3, .int (-1))] ⟨rfl, ⟨rfl, ⟨rfl, ⟨rfl, trivial⟩⟩⟩⟩ rfl (zt_X9_look_p33 hL  h)
  · skip
    refine kz_aload_n (M := kt_M37) kX9_look_c1.2.2.1 rfl ?_
    refine kz_aload_nv (M := kt_M37) (x := x1) kX9_look_c1.2.2.2.1 rfl ?_
    refine kz_nz0 (x := x1) hxp1 ?_
    refine kz_gfp (M := kt_M37) (c := 14) (o := p1) kX9_look_c1.2.2.2.2.1 wf_X9_224 (.inr (by exact hlp1)) ?_
    refine kz_cv0 (M := kt_M37) (c := 8) (o := 0) (As := [va_rf (w_p w2 14 p1 5)]) (rest := []) kX9_look_c1.2.2.2.2.2.1 wl_X9_200 wMv_27 rfl (.inl rfl) rfl (Nat.le_trans (Nat.le_of_ble_eq_true rfl) hL) (by simp [lg_sl, w_cat, z_ci, z_cr, z_cl, z_cn, kt_M27]) (Nat.le_of_ble_eq_true rfl) h (fun w4 hle h => ?_) (fun _ _ _ h => kzx_no rfl h)
    have h := h hle
    have hlp1 := w_l_le hlp1 hle
    refine kz_aload_n (M := kt_M37) kX9_look_c1.2.2.2.2.2.2.1 rfl ?_
    refine kz_bi (M := kt_M37) 16 kX9_look_c1.2.2.2.2.2.2.2.1 rfl ?_
    refine kz_cv1 (M := kt_M37) (c := 8) (o := 0) (As := [.int 16]) (rest := []) kX9_look_c2.1 wl_X9_209 wMv_32 rfl (.inl rfl) rfl (Nat.le_trans (Nat.le_of_ble_eq_true rfl) hL) (Nat.le_of_ble_eq_true rfl) (Nat.le_of_ble_eq_true rfl) h (fun v7 w6 hle h => ?_) (fun _ _ _ h => kzx_no rfl h)
    have h := h hle
    have hlp1 := w_l_le hlp1 hle
    refine kz_sti_n (M := kt_M37) [(0, .ref (w_adr E.2.1 8 0)), (1, va_rf (x1)), (2, va_rf (x2))] kX9_look_c2.2.1 (Nat.le_of_ble_eq_true rfl) ⟨⟨rfl, rfl, .inl rfl⟩, ⟨⟨rfl, rfl, .inl rfl⟩, ⟨⟨rfl, rfl, .inr (w_cat (x2))⟩, trivial⟩⟩⟩ rfl ?_
    exact kz_weak [(0, .ref (w_adr E.2.1 8 0)), (1, va_rf (x1)), (2, va_rf (x2)), (3, .int v7)] ⟨rfl, ⟨rfl, ⟨rfl, ⟨rfl, trivial⟩⟩⟩⟩ rfl (zt_X9_look_p33 hL  h)
def zL_X9_leave_p50 (E : zE) (L : Nat) (Q : kx_Rs → wS → Prop) (x2 : Int32) (x3 : Option Nat) (x5 : Option Nat) (w : wS) : Prop := kzE E L kt_M35 50 [(0, .ref (w_adr E.2.1 8 0)), (2, .int x2), (3, va_rf (x3)), (5, va_rf (x5))] [] w Q
def zL_X9_leave_p4 (E : zE) (L : Nat) (Q : kx_Rs → wS → Prop) (x2 : Int32) (x3 : Option Nat) (w : wS) : Prop := kzE E L kt_M35 4 [(0, .ref (w_adr E.2.1 8 0)), (2, .int x2), (3, va_rf (x3))] [] w Q
def zb_X9_leave_p173 (E : zE) (L : Nat) (Q : kx_Rs → wS → Prop) (w : wS) : Prop := Q (.inl none) w
theorem zt_X9_leave_p173 {E : zE} {L : Nat} {Q : kx_Rs → wS → Prop} {w : wS} (hL : 22 ≤ L) (h : zb_X9_leave_p173 E L Q  w) : kzE E L kt_M35 173 [(0, .ref (w_adr E.2.1 8 0))] [] w Q := by
  unfold zb_X9_leave_p173 at h
  exact kz_ret (M := kt_M35) kX9_leave_c10.2.1 rfl h
def zb_X9_leave_p153 (E : zE) (L : Nat) (Q : kx_Rs → wS → Prop) (x2 : Int32) (x3 : Option Nat) (w : wS) : Prop := (∃ p1, x3 = some p1 ∧ w_l w E.2.1 14 p1 ∧ zL_X9_leave_p4 E L Q x2 (w_p w 14 p1 7) w)
theorem zt_X9_leave_p153 {E : zE} {L : Nat} {Q : kx_Rs → wS → Prop} {x2 : Int32} {x3 : Option Nat} {w : wS} (hL : 22 ≤ L) (h : zb_X9_leave_p153 E L Q x2 x3 w) : kzE E L kt_M35 153 [(0, .ref (w_adr E.2.1 8 0)), (2, .int x2), (3, va_rf (x3))] [] w Q := by
  unfold zb_X9_leave_p153 at h
  refine kz_aload_nv (M := kt_M35) (x := x3) kX9_leave_c8.2.2.2.2.2.2.1 rfl ?_
  obtain ⟨p1, hxp1, hlp1, h⟩ := h
  refine kz_nz0 (x := x3) hxp1 ?_
  refine kz_gfp (M := kt_M35) (c := 14) (o := p1) kX9_leave_c8.2.2.2.2.2.2.2.1 wf_X9_129 (.inr (by exact hlp1)) ?_
  refine kz_stv_n (M := kt_M35) (x := w_p w 14 p1 7) [(0, .ref (w_adr E.2.1 8 0)), (2, .int x2)] kX9_leave_c9.1 (Nat.le_of_ble_eq_true rfl) ⟨⟨rfl, rfl, .inl rfl⟩, ⟨⟨rfl, rfl, .inr rfl⟩, trivial⟩⟩ rfl ?_
  refine kz_goto (M := kt_M35) kX9_leave_c9.2.1 (t := 4) rfl ?_
  exact kz_weak [(0, .ref (w_adr E.2.1 8 0)), (2, .int x2), (3, va_rf (w_p w 14 p1 7))] ⟨rfl, ⟨rfl, ⟨rfl, trivial⟩⟩⟩ rfl h
def zb_X9_leave_p101 (E : zE) (L : Nat) (Q : kx_Rs → wS → Prop) (x2 : Int32) (x3 : Option Nat) (x5 : Option Nat) (w : wS) : Prop := (∃ p1, x5 = some p1 ∧ w_l w E.2.1 14 p1 ∧ zL_X9_leave_p50 E L Q x2 x3 (w_p w 14 p1 7) w)
theorem zt_X9_leave_p101 {E : zE} {L : Nat} {Q : kx_Rs → wS → Prop} {x2 : Int32} {x3 : Option Nat} {x5 : Option Nat} {w : wS} (hL : 22 ≤ L) (h : zb_X9_leave_p101 E L Q x2 x3 x5 w) : kzE E L kt_M35 101 [(0, .ref (w_adr E.2.1 8 0)), (2, .int x2), (3, va_rf (x3)), (5, va_rf (x5))] [] w Q := by
  unfold zb_X9_leave_p101 at h
  refine kz_aloadv (M := kt_M35) (x := x5) kX9_leave_c5.2.2.2.2.2.2.2.1 rfl ?_
  obtain ⟨p1, hxp1, hlp1, h⟩ := h
  refine kz_nz0 (x := x5) hxp1 ?_
  refine kz_gfp (M := kt_M35) (c := 14) (o := p1) kX9_leave_c6.1 wf_X9_129 (.inr (by exact hlp1)) ?_
  refine kz_stv (M := kt_M35) (x := w_p w 14 p1 7) [(0, .ref (w_adr E.2.1 8 0)), (2, .int x2), (3, va_rf (x3))] kX9_leave_c6.2.1 (Nat.le_of_ble_eq_true rfl) ⟨⟨rfl, rfl, .inl rfl⟩, ⟨⟨rfl, rfl, .inl rfl⟩, ⟨⟨rfl, rfl, .inl rfl⟩, trivial⟩⟩⟩ rfl ?_
  refine kz_goto (M := kt_M35) kX9_leave_c6.2.2.1 (t := 50) rfl ?_
  exact kz_weak [(0, .ref (w_adr E.2.1 8 0)), (2, .int x2), (3, va_rf (x3)), (5, va_rf (w_p w 14 p1 7))] ⟨rfl, ⟨rfl, ⟨rfl, ⟨rfl, trivial⟩⟩⟩⟩ rfl h
def zb_X9_leave_p79 (E : zE) (L : Nat) (Q : kx_Rs → wS → Prop) (x3 : Option Nat) (x5 : Option Nat) (y0 : Int32) (y1 : Int32) (w : wS) : Prop := (∃ p1, x5 = some p1 ∧ w_l w E.2.1 14 p1 ∧ (∃ p2, w_p w 14 p1 16 = some p2 ∧ w_l w E.2.1 15 p2 ∧ (if w_i w 15 p2 9 = 0 then zb_X9_leave_p101 E L Q (y1 + y0) x3 x5 w else zw E (L - 21) kt_M28 [.ref (w_adr E.2.1 8 0), va_rf (w_p w 14 p1 16)] w (wk0 (fun w3 => wle w w3 → zb_X9_leave_p101 E L Q (y1 + y0) x3 x5 w3) (fun e w => Q (.inr e) w)))))
theorem zt_X9_leave_p79 {E : zE} {L : Nat} {Q : kx_Rs → wS → Prop} {x3 : Option Nat} {x5 : Option Nat} {y0 : Int32} {y1 : Int32} {w : wS} (hL : 22 ≤ L) (h : zb_X9_leave_p79 E L Q x3 x5 y0 y1 w) : kzE E L kt_M35 79 [(0, .ref (w_adr E.2.1 8 0)), (3, va_rf (x3)), (5, va_rf (x5))] [.int y0, .int y1] w Q := by
  unfold zb_X9_leave_p79 at h
  refine kz_iadd (M := kt_M35) kX9_leave_c4.2.2.2.2.2.1 ?_
  refine kz_sti_n (M := kt_M35) [(0, .ref (w_adr E.2.1 8 0)), (3, va_rf (x3)), (5, va_rf (x5))] kX9_leave_c4.2.2.2.2.2.2.1 (Nat.le_of_ble_eq_true rfl) ⟨⟨rfl, rfl, .inl rfl⟩, ⟨⟨rfl, rfl, .inl rfl⟩, ⟨⟨rfl, rfl, .inl rfl⟩, trivial⟩⟩⟩ rfl ?_
  refine kz_aloadv (M := kt_M35) (x := x5) kX9_leave_c4.2.2.2.2.2.2.2.1 rfl ?_
  obtain ⟨p1, hxp1, hlp1, h⟩ := h
  refine kz_nz0 (x := x5) hxp1 ?_
  refine kz_gfp (M := kt_M35) (c := 14) (o := p1) kX9_leave_c5.1 wf_X9_115 (.inr (by exact hlp1)) ?_
  obtain ⟨p2, hxp2, hlp2, h⟩ := h
  refine kz_nz0 (x := w_p w 14 p1 16) hxp2 ?_
  refine kz_gfi (M := kt_M35) (c := 15) (o := p2) kX9_leave_c5.2.1 wf_X9_124 (.inr (by exact hlp2)) ?_
  refine kz_if_eq (M := kt_M35) kX9_leave_c5.2.2.1 (t := 101) rfl h (fun h => ?_) (fun h => ?_)
  · skip
    exact kz_weak [(0, .ref (w_adr E.2.1 8 0)), (2, .int (y1 + y0)), (3, va_rf (x3)), (5, va_rf (x5))] ⟨rfl, ⟨rfl, ⟨rfl, ⟨rfl, trivial⟩⟩⟩⟩ rfl (zt_X9_leave_p101 hL  h)
  · skip
    refine kz_aload_n (M := kt_M35) kX9_leave_c5.2.2.2.1 rfl ?_
    refine kz_aloadv (M := kt_M35) (x := x5) kX9_leave_c5.2.2.2.2.1 rfl ?_
    refine kz_nz0 (x := x5) hxp1 ?_
    refine kz_gfp (M := kt_M35) (c := 14) (o := p1) kX9_leave_c5.2.2.2.2.2.1 wf_X9_115 (.inr (by exact hlp1)) ?_
    refine kz_cv0 (M := kt_M35) (c := 8) (o := 0) (As := [va_rf (w_p w 14 p1 16)]) (rest := []) kX9_leave_c5.2.2.2.2.2.2.1 wl_X9_203 wMv_28 rfl (.inl rfl) rfl (Nat.le_trans (Nat.le_of_ble_eq_true rfl) hL) (by simp [lg_sl, w_cat, z_ci, z_cr, z_cl, z_cn, kt_M28]) (Nat.le_of_ble_eq_true rfl) h (fun w3 hle h => ?_) (fun _ _ _ h => kzx_no rfl h)
    have h := h hle
    have hlp1 := w_l_le hlp1 hle
    have hlp2 := w_l_le hlp2 hle
    exact kz_weak [(0, .ref (w_adr E.2.1 8 0)), (2, .int (y1 + y0)), (3, va_rf (x3)), (5, va_rf (x5))] ⟨rfl, ⟨rfl, ⟨rfl, ⟨rfl, trivial⟩⟩⟩⟩ rfl (zt_X9_leave_p101 hL  h)
def zb_X9_leave_p50 (E : zE) (L : Nat) (Q : kx_Rs → wS → Prop) (x2 : Int32) (x3 : Option Nat) (x5 : Option Nat) (w : wS) : Prop := (if x5 = none then (∃ p1, x3 = some p1 ∧ w_l w E.2.1 14 p1 ∧ (if ¬ w_p w 14 p1 0 = some (E.1.1 28) then zb_X9_leave_p153 E L Q x2 x3 w else (∃ p2, w_p w 14 p1 16 = some p2 ∧ w_l w E.2.1 15 p2 ∧ (if w_i w 15 p2 9 = 0 then zb_X9_leave_p153 E L Q x2 x3 w else zw E (L - 22) kt_M36 [.ref (w_adr E.2.1 8 0), va_rf (w_p w 8 0 7), .int (w_i w 15 p2 21)] w (wk0 (fun w3 => wle w w3 → zw E (L - 22) kt_M25 [.ref (w_adr E.2.1 8 0), .int 25, .int 1] w3 (wk0 (fun w5 => wle w3 w5 → zb_X9_leave_p153 E L Q x2 x3 w5) (fun e w => Q (.inr e) w))) (fun e w => Q (.inr e) w)))))) else (∃ p7, x5 = some p7 ∧ w_l w E.2.1 14 p7 ∧ (∃ p8, w_p w 14 p7 16 = some p8 ∧ w_l w E.2.1 15 p8 ∧ (if w_i w 15 p8 9 = 0 then zb_X9_leave_p79 E L Q x3 x5 1 x2 w else zb_X9_leave_p79 E L Q x3 x5 (w_i w 15 p8 6) x2 w))))
theorem zt_X9_leave_p50 {E : zE} {L : Nat} {Q : kx_Rs → wS → Prop} {x2 : Int32} {x3 : Option Nat} {x5 : Option Nat} {w : wS} (hL : 22 ≤ L) (h : zb_X9_leave_p50 E L Q x2 x3 x5 w) : kzE E L kt_M35 50 [(0, .ref (w_adr E.2.1 8 0)), (2, .int x2), (3, va_rf (x3)), (5, va_rf (x5))] [] w Q := by
  unfold zb_X9_leave_p50 at h
  refine kz_aloadv (M := kt_M35) (x := x5) kX9_leave_c3.2.1 rfl ?_
  refine kz_ifnull (M := kt_M35) (x := x5) kX9_leave_c3.2.2.1 (t := 111) rfl h (fun h => ?_) (fun h => ?_)
  · skip
    refine kz_aload_nv (M := kt_M35) (x := x3) kX9_leave_c6.2.2.2.1 rfl ?_
    obtain ⟨p1, hxp1, hlp1, h⟩ := h
    refine kz_nz0 (x := x3) hxp1 ?_
    refine kz_gfp (M := kt_M35) (c := 14) (o := p1) kX9_leave_c6.2.2.2.2.1 wf_X9_103 (.inr (by exact hlp1)) ?_
    refine kz_getsE (M := kt_M35) (v := va_rf (some (E.1.1 28))) kX9_leave_c6.2.2.2.2.2.1 zs_X9_206 ?_
    refine kz_acmp_ne (M := kt_M35) (x := w_p w 14 p1 0) (y := some (E.1.1 28)) kX9_leave_c6.2.2.2.2.2.2.1 (t := 153) rfl h (fun h => ?_) (fun h => ?_)
    · skip
      exact kz_weak [(0, .ref (w_adr E.2.1 8 0)), (2, .int x2), (3, va_rf (x3))] ⟨rfl, ⟨rfl, ⟨rfl, trivial⟩⟩⟩ rfl (zt_X9_leave_p153 hL  h)
    · skip
      refine kz_aload_nv (M := kt_M35) (x := x3) kX9_leave_c6.2.2.2.2.2.2.2.1 rfl ?_
      refine kz_nz0 (x := x3) hxp1 ?_
      refine kz_gfp (M := kt_M35) (c := 14) (o := p1) kX9_leave_c7.1 wf_X9_115 (.inr (by exact hlp1)) ?_
      obtain ⟨p2, hxp2, hlp2, h⟩ := h
      refine kz_nz0 (x := w_p w 14 p1 16) hxp2 ?_
      refine kz_gfi (M := kt_M35) (c := 15) (o := p2) kX9_leave_c7.2.1 wf_X9_124 (.inr (by exact hlp2)) ?_
      refine kz_if_eq (M := kt_M35) kX9_leave_c7.2.2.1 (t := 153) rfl h (fun h => ?_) (fun h => ?_)
      · skip
        exact kz_weak [(0, .ref (w_adr E.2.1 8 0)), (2, .int x2), (3, va_rf (x3))] ⟨rfl, ⟨rfl, ⟨rfl, trivial⟩⟩⟩ rfl (zt_X9_leave_p153 hL  h)
      · skip
        refine kz_aload_n (M := kt_M35) kX9_leave_c7.2.2.2.1 rfl ?_
        refine kz_aload_n (M := kt_M35) kX9_leave_c7.2.2.2.2.1 rfl ?_
        refine kz_gfp (M := kt_M35) (c := 8) (o := 0) kX9_leave_c7.2.2.2.2.2.1 wf_X9_88 (.inl rfl) ?_
        refine kz_aload_nv (M := kt_M35) (x := x3) kX9_leave_c7.2.2.2.2.2.2.1 rfl ?_
        refine kz_nz0 (x := x3) hxp1 ?_
        refine kz_gfp (M := kt_M35) (c := 14) (o := p1) kX9_leave_c7.2.2.2.2.2.2.2.1 wf_X9_115 (.inr (by exact hlp1)) ?_
        refine kz_nz0 (x := w_p w 14 p1 16) hxp2 ?_
        refine kz_gfi (M := kt_M35) (c := 15) (o := p2) kX9_leave_c8.1 wf_X9_119 (.inr (by exact hlp2)) ?_
        refine kz_cv0 (M := kt_M35) (c := 8) (o := 0) (As := [va_rf (w_p w 8 0 7), .int (w_i w 15 p2 21)]) (rest := []) kX9_leave_c8.2.1 wl_X9_182 wMv_36 rfl (.inl rfl) rfl (Nat.le_trans (Nat.le_of_ble_eq_true rfl) hL) (by simp [lg_sl, w_cat, z_ci, z_cr, z_cl, z_cn, kt_M36]) (Nat.le_of_ble_eq_true rfl) h (fun w3 hle h => ?_) (fun _ _ _ h => kzx_no rfl h)
        have h := h hle
        have hlp1 := w_l_le hlp1 hle
        have hlp2 := w_l_le hlp2 hle
        refine kz_aload_n (M := kt_M35) kX9_leave_c8.2.2.1 rfl ?_
        refine kz_bi (M := kt_M35) 25 kX9_leave_c8.2.2.2.1 rfl ?_
        refine kz_ic (M := kt_M35) 1 kX9_leave_c8.2.2.2.2.1 rfl ?_
        refine kz_cv0 (M := kt_M35) (c := 8) (o := 0) (As := [.int 25, .int 1]) (rest := []) kX9_leave_c8.2.2.2.2.2.1 wl_X9_42 wMv_25 rfl (.inl rfl) rfl (Nat.le_trans (Nat.le_of_ble_eq_true rfl) hL) (Nat.le_of_ble_eq_true rfl) (Nat.le_of_ble_eq_true rfl) h (fun w5 hle h => ?_) (fun _ _ _ h => kzx_no rfl h)
        have h := h hle
        have hlp1 := w_l_le hlp1 hle
        have hlp2 := w_l_le hlp2 hle
        exact kz_weak [(0, .ref (w_adr E.2.1 8 0)), (2, .int x2), (3, va_rf (x3))] ⟨rfl, ⟨rfl, ⟨rfl, trivial⟩⟩⟩ rfl (zt_X9_leave_p153 hL  h)
  · skip
    refine kz_iload_n (M := kt_M35) kX9_leave_c3.2.2.2.1 rfl ?_
    refine kz_aloadv (M := kt_M35) (x := x5) kX9_leave_c3.2.2.2.2.1 rfl ?_
    obtain ⟨p7, hxp7, hlp7, h⟩ := h
    refine kz_nz0 (x := x5) hxp7 ?_
    refine kz_gfp (M := kt_M35) (c := 14) (o := p7) kX9_leave_c3.2.2.2.2.2.1 wf_X9_115 (.inr (by exact hlp7)) ?_
    obtain ⟨p8, hxp8, hlp8, h⟩ := h
    refine kz_nz0 (x := w_p w 14 p7 16) hxp8 ?_
    refine kz_gfi (M := kt_M35) (c := 15) (o := p8) kX9_leave_c3.2.2.2.2.2.2.1 wf_X9_124 (.inr (by exact hlp8)) ?_
    refine kz_if_eq (M := kt_M35) kX9_leave_c3.2.2.2.2.2.2.2.1 (t := 78) rfl h (fun h => ?_) (fun h => ?_)
    · skip
      refine kz_ic (M := kt_M35) 1 kX9_leave_c4.2.2.2.2.1 rfl ?_
      exact kz_weak [(0, .ref (w_adr E.2.1 8 0)), (3, va_rf (x3)), (5, va_rf (x5))] ⟨rfl, ⟨rfl, ⟨rfl, trivial⟩⟩⟩ rfl (zt_X9_leave_p79 hL  h)
    · skip
      refine kz_aloadv (M := kt_M35) (x := x5) kX9_leave_c4.1 rfl ?_
      refine kz_nz0 (x := x5) hxp7 ?_
      refine kz_gfp (M := kt_M35) (c := 14) (o := p7) kX9_leave_c4.2.1 wf_X9_115 (.inr (by exact hlp7)) ?_
      refine kz_nz0 (x := w_p w 14 p7 16) hxp8 ?_
      refine kz_gfi (M := kt_M35) (c := 15) (o := p8) kX9_leave_c4.2.2.1 wf_X9_128 (.inr (by exact hlp8)) ?_
      refine kz_goto (M := kt_M35) kX9_leave_c4.2.2.2.1 (t := 79) rfl ?_
      exact kz_weak [(0, .ref (w_adr E.2.1 8 0)), (3, va_rf (x3)), (5, va_rf (x5))] ⟨rfl, ⟨rfl, ⟨rfl, trivial⟩⟩⟩ rfl (zt_X9_leave_p79 hL  h)
def zb_X9_leave_p48 (E : zE) (L : Nat) (Q : kx_Rs → wS → Prop) (x2 : Int32) (x3 : Option Nat) (y0 : Option Nat) (w : wS) : Prop := zL_X9_leave_p50 E L Q x2 x3 y0 w
theorem zt_X9_leave_p48 {E : zE} {L : Nat} {Q : kx_Rs → wS → Prop} {x2 : Int32} {x3 : Option Nat} {y0 : Option Nat} {w : wS} (hL : 22 ≤ L) (h : zb_X9_leave_p48 E L Q x2 x3 y0 w) : kzE E L kt_M35 48 [(0, .ref (w_adr E.2.1 8 0)), (2, .int x2), (3, va_rf (x3))] [va_rf (y0)] w Q := by
  unfold zb_X9_leave_p48 at h
  refine kz_stv (M := kt_M35) (x := y0) [(0, .ref (w_adr E.2.1 8 0)), (2, .int x2), (3, va_rf (x3))] kX9_leave_c3.1 (Nat.le_of_ble_eq_true rfl) ⟨⟨rfl, rfl, .inl rfl⟩, ⟨⟨rfl, rfl, .inl rfl⟩, ⟨⟨rfl, rfl, .inl rfl⟩, trivial⟩⟩⟩ rfl ?_
  exact kz_weak [(0, .ref (w_adr E.2.1 8 0)), (2, .int x2), (3, va_rf (x3)), (5, va_rf (y0))] ⟨rfl, ⟨rfl, ⟨rfl, ⟨rfl, trivial⟩⟩⟩⟩ rfl h
def zb_X9_leave_p33 (E : zE) (L : Nat) (Q : kx_Rs → wS → Prop) (x2 : Int32) (x3 : Option Nat) (y0 : Int32) (w : wS) : Prop := (if y0 = 0 then zb_X9_leave_p48 E L Q x2 x3 none w else (∃ p1, x3 = some p1 ∧ w_l w E.2.1 14 p1 ∧ zb_X9_leave_p48 E L Q x2 x3 (w_p w 14 p1 4) w))
theorem zt_X9_leave_p33 {E : zE} {L : Nat} {Q : kx_Rs → wS → Prop} {x2 : Int32} {x3 : Option Nat} {y0 : Int32} {w : wS} (hL : 22 ≤ L) (h : zb_X9_leave_p33 E L Q x2 x3 y0 w) : kzE E L kt_M35 33 [(0, .ref (w_adr E.2.1 8 0)), (2, .int x2), (3, va_rf (x3))] [.int y0] w Q := by
  unfold zb_X9_leave_p33 at h
  refine kz_sti (M := kt_M35) [(0, .ref (w_adr E.2.1 8 0)), (2, .int x2), (3, va_rf (x3))] kX9_leave_c2.2.1 (Nat.le_of_ble_eq_true rfl) ⟨⟨rfl, rfl, .inl rfl⟩, ⟨⟨rfl, rfl, .inl rfl⟩, ⟨⟨rfl, rfl, .inr (w_cat (x3))⟩, trivial⟩⟩⟩ rfl ?_
  refine kz_iload (M := kt_M35) kX9_leave_c2.2.2.1 rfl ?_
  refine kz_if_eq (M := kt_M35) kX9_leave_c2.2.2.2.1 (t := 47) rfl h (fun h => ?_) (fun h => ?_)
  · skip
    refine kz_null (M := kt_M35) kX9_leave_c2.2.2.2.2.2.2.2.1 ?_
    exact kz_weak [(0, .ref (w_adr E.2.1 8 0)), (2, .int x2), (3, va_rf (x3))] ⟨rfl, ⟨rfl, ⟨rfl, trivial⟩⟩⟩ rfl (zt_X9_leave_p48 hL  h)
  · skip
    refine kz_aload_nv (M := kt_M35) (x := x3) kX9_leave_c2.2.2.2.2.1 rfl ?_
    obtain ⟨p1, hxp1, hlp1, h⟩ := h
    refine kz_nz0 (x := x3) hxp1 ?_
    refine kz_gfp (M := kt_M35) (c := 14) (o := p1) kX9_leave_c2.2.2.2.2.2.1 wf_X9_112 (.inr (by exact hlp1)) ?_
    refine kz_goto (M := kt_M35) kX9_leave_c2.2.2.2.2.2.2.1 (t := 48) rfl ?_
    exact kz_weak [(0, .ref (w_adr E.2.1 8 0)), (2, .int x2), (3, va_rf (x3))] ⟨rfl, ⟨rfl, ⟨rfl, trivial⟩⟩⟩ rfl (zt_X9_leave_p48 hL  h)
def zb_X9_leave_p28 (E : zE) (L : Nat) (Q : kx_Rs → wS → Prop) (x2 : Int32) (x3 : Option Nat) (w : wS) : Prop := zb_X9_leave_p33 E L Q x2 x3 1 w
theorem zt_X9_leave_p28 {E : zE} {L : Nat} {Q : kx_Rs → wS → Prop} {x2 : Int32} {x3 : Option Nat} {w : wS} (hL : 22 ≤ L) (h : zb_X9_leave_p28 E L Q x2 x3 w) : kzE E L kt_M35 28 [(0, .ref (w_adr E.2.1 8 0)), (2, .int x2), (3, va_rf (x3))] [] w Q := by
  unfold zb_X9_leave_p28 at h
  refine kz_ic (M := kt_M35) 1 kX9_leave_c1.2.2.2.2.2.2.1 rfl ?_
  refine kz_goto (M := kt_M35) kX9_leave_c1.2.2.2.2.2.2.2.1 (t := 33) rfl ?_
  exact kz_weak [(0, .ref (w_adr E.2.1 8 0)), (2, .int x2), (3, va_rf (x3))] ⟨rfl, ⟨rfl, ⟨rfl, trivial⟩⟩⟩ rfl (zt_X9_leave_p33 hL  h)
def zb_X9_leave_p4 (E : zE) (L : Nat) (Q : kx_Rs → wS → Prop) (x2 : Int32) (x3 : Option Nat) (w : wS) : Prop := (if x3 = none then (if x2 ≤ 0 then zb_X9_leave_p173 E L Q w else zw E (L - 22) kt_M25 [.ref (w_adr E.2.1 8 0), .int 22, .int (-x2)] w (wk0 (fun w1 => wle w w1 → zb_X9_leave_p173 E L Q w1) (fun e w => Q (.inr e) w))) else (∃ p3, x3 = some p3 ∧ w_l w E.2.1 14 p3 ∧ (if w_p w 14 p3 0 = some (E.1.1 10) then zb_X9_leave_p28 E L Q x2 x3 w else (if ¬ w_p w 14 p3 0 = some (E.1.1 26) then zb_X9_leave_p33 E L Q x2 x3 0 w else zb_X9_leave_p28 E L Q x2 x3 w))))
theorem zt_X9_leave_p4 {E : zE} {L : Nat} {Q : kx_Rs → wS → Prop} {x2 : Int32} {x3 : Option Nat} {w : wS} (hL : 22 ≤ L) (h : zb_X9_leave_p4 E L Q x2 x3 w) : kzE E L kt_M35 4 [(0, .ref (w_adr E.2.1 8 0)), (2, .int x2), (3, va_rf (x3))] [] w Q := by
  unfold zb_X9_leave_p4 at h
  refine kz_aload_nv (M := kt_M35) (x := x3) kX9_leave_c0.2.2.2.2.1 rfl ?_
  refine kz_ifnull (M := kt_M35) (x := x3) kX9_leave_c0.2.2.2.2.2.1 (t := 161) rfl h (fun h => ?_) (fun h => ?_)
  · skip
    refine kz_iload_n (M := kt_M35) kX9_leave_c9.2.2.1 rfl ?_
    refine kz_if_le (M := kt_M35) kX9_leave_c9.2.2.2.1 (t := 173) rfl h (fun h => ?_) (fun h => ?_)
    · skip
      exact kz_weak [(0, .ref (w_adr E.2.1 8 0))] ⟨rfl, trivial⟩ rfl (zt_X9_leave_p173 hL  h)
    · skip
      refine kz_aload_n (M := kt_M35) kX9_leave_c9.2.2.2.2.1 rfl ?_
      refine kz_bi (M := kt_M35) 22 kX9_leave_c9.2.2.2.2.2.1 rfl ?_
      refine kz_iload_n (M := kt_M35) kX9_leave_c9.2.2.2.2.2.2.1 rfl ?_
      refine kz_ineg (M := kt_M35) kX9_leave_c9.2.2.2.2.2.2.2.1 ?_
      refine kz_cv0 (M := kt_M35) (c := 8) (o := 0) (As := [.int 22, .int (-x2)]) (rest := []) kX9_leave_c10.1 wl_X9_42 wMv_25 rfl (.inl rfl) rfl (Nat.le_trans (Nat.le_of_ble_eq_true rfl) hL) (Nat.le_of_ble_eq_true rfl) (Nat.le_of_ble_eq_true rfl) h (fun w1 hle h => ?_) (fun _ _ _ h => kzx_no rfl h)
      have h := h hle
      exact kz_weak [(0, .ref (w_adr E.2.1 8 0))] ⟨rfl, trivial⟩ rfl (zt_X9_leave_p173 hL  h)
  · skip
    refine kz_aload_nv (M := kt_M35) (x := x3) kX9_leave_c0.2.2.2.2.2.2.1 rfl ?_
    obtain ⟨p3, hxp3, hlp3, h⟩ := h
    refine kz_nz0 (x := x3) hxp3 ?_
    refine kz_gfp (M := kt_M35) (c := 14) (o := p3) kX9_leave_c0.2.2.2.2.2.2.2.1 wf_X9_103 (.inr (by exact hlp3)) ?_
    refine kz_getsE (M := kt_M35) (v := va_rf (some (E.1.1 10))) kX9_leave_c1.1 zs_X9_107 ?_
    refine kz_acmp_eq (M := kt_M35) (x := w_p w 14 p3 0) (y := some (E.1.1 10)) kX9_leave_c1.2.1 (t := 28) rfl h (fun h => ?_) (fun h => ?_)
    · skip
      exact kz_weak [(0, .ref (w_adr E.2.1 8 0)), (2, .int x2), (3, va_rf (x3))] ⟨rfl, ⟨rfl, ⟨rfl, trivial⟩⟩⟩ rfl (zt_X9_leave_p28 hL  h)
    · skip
      refine kz_aload_nv (M := kt_M35) (x := x3) kX9_leave_c1.2.2.1 rfl ?_
      refine kz_nz0 (x := x3) hxp3 ?_
      refine kz_gfp (M := kt_M35) (c := 14) (o := p3) kX9_leave_c1.2.2.2.1 wf_X9_103 (.inr (by exact hlp3)) ?_
      refine kz_getsE (M := kt_M35) (v := va_rf (some (E.1.1 26))) kX9_leave_c1.2.2.2.2.1 zs_X9_189 ?_
      refine kz_acmp_ne (M := kt_M35) (x := w_p w 14 p3 0) (y := some (E.1.1 26)) kX9_leave_c1.2.2.2.2.2.1 (t := 32) rfl h (fun h => ?_) (fun h => ?_)
      · skip
        refine kz_ic (M := kt_M35) 0 kX9_leave_c2.1 rfl ?_
        exact kz_weak [(0, .ref (w_adr E.2.1 8 0)), (2, .int x2), (3, va_rf (x3))] ⟨rfl, ⟨rfl, ⟨rfl, trivial⟩⟩⟩ rfl (zt_X9_leave_p33 hL  h)
      · skip
        exact kz_weak [(0, .ref (w_adr E.2.1 8 0)), (2, .int x2), (3, va_rf (x3))] ⟨rfl, ⟨rfl, ⟨rfl, trivial⟩⟩⟩ rfl (zt_X9_leave_p28 hL  h)
def zb_X9_leave_p0 (E : zE) (L : Nat) (Q : kx_Rs → wS → Prop) (x1 : Option Nat) (w : wS) : Prop := zL_X9_leave_p4 E L Q 0 x1 w
theorem zt_X9_leave_p0 {E : zE} {L : Nat} {Q : kx_Rs → wS → Prop} {x1 : Option Nat} {w : wS} (hL : 22 ≤ L) (h : zb_X9_leave_p0 E L Q x1 w) : kzE E L kt_M35 0 [(0, .ref (w_adr E.2.1 8 0)), (1, va_rf (x1))] [] w Q := by
  unfold zb_X9_leave_p0 at h
  refine kz_ic (M := kt_M35) 0 kX9_leave_c0.1 rfl ?_
  refine kz_sti_n (M := kt_M35) [(0, .ref (w_adr E.2.1 8 0)), (1, va_rf (x1))] kX9_leave_c0.2.1 (Nat.le_of_ble_eq_true rfl) ⟨⟨rfl, rfl, .inl rfl⟩, ⟨⟨rfl, rfl, .inr (w_cat (x1))⟩, trivial⟩⟩ rfl ?_
  refine kz_aload_nv (M := kt_M35) (x := x1) kX9_leave_c0.2.2.1 rfl ?_
  refine kz_stv_n (M := kt_M35) (x := x1) [(0, .ref (w_adr E.2.1 8 0)), (2, .int 0)] kX9_leave_c0.2.2.2.1 (Nat.le_of_ble_eq_true rfl) ⟨⟨rfl, rfl, .inl rfl⟩, ⟨⟨rfl, rfl, .inr rfl⟩, trivial⟩⟩ rfl ?_
  exact kz_weak [(0, .ref (w_adr E.2.1 8 0)), (2, .int 0), (3, va_rf (x1))] ⟨rfl, ⟨rfl, ⟨rfl, trivial⟩⟩⟩ rfl h
def zb_X9_free_p0 (E : zE) (L : Nat) (Q : kx_Rs → wS → Prop) (x1 : Option Nat) (w : wS) : Prop := (∃ p1, x1 = some p1 ∧ w_l w E.2.1 15 p1 ∧ zw E (L - 22) kt_M36 [.ref (w_adr E.2.1 8 0), va_rf (w_p w 8 0 7), .int (w_i w 15 p1 21)] w (wk0 (fun w2 => wle w w2 → zw E (L - 22) kt_M25 [.ref (w_adr E.2.1 8 0), .int 25, .int 0] w2 (wk0 (fun w4 => wle w2 w4 → Q (.inl none) w4) (fun e w => Q (.inr e) w))) (fun e w => Q (.inr e) w)))
theorem zt_X9_free_p0 {E : zE} {L : Nat} {Q : kx_Rs → wS → Prop} {x1 : Option Nat} {w : wS} (hL : 22 ≤ L) (h : zb_X9_free_p0 E L Q x1 w) : kzE E L kt_M28 0 [(0, .ref (w_adr E.2.1 8 0)), (1, va_rf (x1))] [] w Q := by
  unfold zb_X9_free_p0 at h
  refine kz_aload_n (M := kt_M28) kX9_free_c0.1 rfl ?_
  refine kz_aload_n (M := kt_M28) kX9_free_c0.2.1 rfl ?_
  refine kz_gfp (M := kt_M28) (c := 8) (o := 0) kX9_free_c0.2.2.1 wf_X9_88 (.inl rfl) ?_
  refine kz_aload_nv (M := kt_M28) (x := x1) kX9_free_c0.2.2.2.1 rfl ?_
  obtain ⟨p1, hxp1, hlp1, h⟩ := h
  refine kz_nz0 (x := x1) hxp1 ?_
  refine kz_gfi (M := kt_M28) (c := 15) (o := p1) kX9_free_c0.2.2.2.2.1 wf_X9_119 (.inr (by exact hlp1)) ?_
  refine kz_cv0 (M := kt_M28) (c := 8) (o := 0) (As := [va_rf (w_p w 8 0 7), .int (w_i w 15 p1 21)]) (rest := []) kX9_free_c0.2.2.2.2.2.1 wl_X9_182 wMv_36 rfl (.inl rfl) rfl (Nat.le_trans (Nat.le_of_ble_eq_true rfl) hL) (by simp [lg_sl, w_cat, z_ci, z_cr, z_cl, z_cn, kt_M36]) (Nat.le_of_ble_eq_true rfl) h (fun w2 hle h => ?_) (fun _ _ _ h => kzx_no rfl h)
  have h := h hle
  have hlp1 := w_l_le hlp1 hle
  refine kz_aload_n (M := kt_M28) kX9_free_c0.2.2.2.2.2.2.1 rfl ?_
  refine kz_bi (M := kt_M28) 25 kX9_free_c0.2.2.2.2.2.2.2.1 rfl ?_
  refine kz_ic (M := kt_M28) 0 kX9_free_c1.1 rfl ?_
  refine kz_cv0 (M := kt_M28) (c := 8) (o := 0) (As := [.int 25, .int 0]) (rest := []) kX9_free_c1.2.1 wl_X9_42 wMv_25 rfl (.inl rfl) rfl (Nat.le_trans (Nat.le_of_ble_eq_true rfl) hL) (Nat.le_of_ble_eq_true rfl) (Nat.le_of_ble_eq_true rfl) h (fun w4 hle h => ?_) (fun _ _ _ h => kzx_no rfl h)
  have h := h hle
  have hlp1 := w_l_le hlp1 hle
  exact kz_ret (M := kt_M28) kX9_free_c1.2.2.1 rfl h
