/-! ===== methods over the typed state (printed by tools/gen_lift.py) ===== -/
set_option maxRecDepth 100000
theorem zho_X13_proceed_21 {E : zE} (x : String) : kx_hd (zV E) "MeetingHouseModel" 21 x (kt_M513.2.2.2.2.getD []) = some none := by
  show kx_hd _ _ _ _ [(0, 4, 7, 7)] = _
  unfold kx_hd
  rw [if_neg (by decide)]
  rfl
theorem zho_X13_proceed_26 {E : zE} (x : String) : kx_hd (zV E) "MeetingHouseModel" 26 x (kt_M513.2.2.2.2.getD []) = some none := by
  show kx_hd _ _ _ _ [(0, 4, 7, 7)] = _
  unfold kx_hd
  rw [if_neg (by decide)]
  rfl
theorem zho_X13_proceed_9 {E : zE} (x : String) : kx_hd (zV E) "MeetingHouseModel" 9 x (kt_M513.2.2.2.2.getD []) = some none := by
  show kx_hd _ _ _ _ [(0, 4, 7, 7)] = _
  unfold kx_hd
  rw [if_neg (by decide)]
  rfl
theorem zho_X13_receive_100 {E : zE} (x : String) : kx_hd (zV E) "MeetingHouseModel" 100 x (kt_M522.2.2.2.2.getD []) = some none := by
  show kx_hd _ _ _ _ [(201, 218, 221, 7)] = _
  unfold kx_hd
  rw [if_neg (by decide)]
  rfl
theorem zho_X13_receive_127 {E : zE} (x : String) : kx_hd (zV E) "MeetingHouseModel" 127 x (kt_M522.2.2.2.2.getD []) = some none := by
  show kx_hd _ _ _ _ [(201, 218, 221, 7)] = _
  unfold kx_hd
  rw [if_neg (by decide)]
  rfl
theorem zho_X13_receive_130 {E : zE} (x : String) : kx_hd (zV E) "MeetingHouseModel" 130 x (kt_M522.2.2.2.2.getD []) = some none := by
  show kx_hd _ _ _ _ [(201, 218, 221, 7)] = _
  unfold kx_hd
  rw [if_neg (by decide)]
  rfl
theorem zho_X13_receive_14 {E : zE} (x : String) : kx_hd (zV E) "MeetingHouseModel" 14 x (kt_M522.2.2.2.2.getD []) = some none := by
  show kx_hd _ _ _ _ [(201, 218, 221, 7)] = _
  unfold kx_hd
  rw [if_neg (by decide)]
  rfl
theorem zho_X13_receive_171 {E : zE} (x : String) : kx_hd (zV E) "MeetingHouseModel" 171 x (kt_M522.2.2.2.2.getD []) = some none := by
  show kx_hd _ _ _ _ [(201, 218, 221, 7)] = _
  unfold kx_hd
  rw [if_neg (by decide)]
  rfl
theorem zho_X13_receive_195 {E : zE} (x : String) : kx_hd (zV E) "MeetingHouseModel" 195 x (kt_M522.2.2.2.2.getD []) = some none := by
  show kx_hd _ _ _ _ [(201, 218, 221, 7)] = _
  unfold kx_hd
  rw [if_neg (by decide)]
  rfl
theorem zho_X13_receive_227 {E : zE} (x : String) : kx_hd (zV E) "MeetingHouseModel" 227 x (kt_M522.2.2.2.2.getD []) = some none := by
  show kx_hd _ _ _ _ [(201, 218, 221, 7)] = _
  unfold kx_hd
  rw [if_neg (by decide)]
  rfl
theorem zho_X13_receive_235 {E : zE} (x : String) : kx_hd (zV E) "MeetingHouseModel" 235 x (kt_M522.2.2.2.2.getD []) = some none := by
  show kx_hd _ _ _ _ [(201, 218, 221, 7)] = _
  unfold kx_hd
  rw [if_neg (by decide)]
  rfl
theorem zho_X13_receive_80 {E : zE} (x : String) : kx_hd (zV E) "MeetingHouseModel" 80 x (kt_M522.2.2.2.2.getD []) = some none := by
  show kx_hd _ _ _ _ [(201, 218, 221, 7)] = _
  unfold kx_hd
  rw [if_neg (by decide)]
  rfl
theorem zho_X13_step_146 {E : zE} (x : String) : kx_hd (zV E) "MeetingHouseModel" 146 x (kt_M544.2.2.2.2.getD []) = some none := by
  show kx_hd _ _ _ _ [(155, 185, 188, 7)] = _
  unfold kx_hd
  rw [if_neg (by decide)]
  rfl
theorem zho_X13_step_191 {E : zE} (x : String) : kx_hd (zV E) "MeetingHouseModel" 191 x (kt_M544.2.2.2.2.getD []) = some none := by
  show kx_hd _ _ _ _ [(155, 185, 188, 7)] = _
  unfold kx_hd
  rw [if_neg (by decide)]
  rfl
theorem zho_X13_step_206 {E : zE} (x : String) : kx_hd (zV E) "MeetingHouseModel" 206 x (kt_M544.2.2.2.2.getD []) = some none := by
  show kx_hd _ _ _ _ [(155, 185, 188, 7)] = _
  unfold kx_hd
  rw [if_neg (by decide)]
  rfl
theorem zho_X13_step_217 {E : zE} (x : String) : kx_hd (zV E) "MeetingHouseModel" 217 x (kt_M544.2.2.2.2.getD []) = some none := by
  show kx_hd _ _ _ _ [(155, 185, 188, 7)] = _
  unfold kx_hd
  rw [if_neg (by decide)]
  rfl
theorem zho_X13_step_221 {E : zE} (x : String) : kx_hd (zV E) "MeetingHouseModel" 221 x (kt_M544.2.2.2.2.getD []) = some none := by
  show kx_hd _ _ _ _ [(155, 185, 188, 7)] = _
  unfold kx_hd
  rw [if_neg (by decide)]
  rfl
theorem zho_X13_step_235 {E : zE} (x : String) : kx_hd (zV E) "MeetingHouseModel" 235 x (kt_M544.2.2.2.2.getD []) = some none := by
  show kx_hd _ _ _ _ [(155, 185, 188, 7)] = _
  unfold kx_hd
  rw [if_neg (by decide)]
  rfl
theorem zhx_X13_parses_23 {E : zE} : kx_hd (zV E) "MeetingHouseModel" 23 "MeetingHouseModel$Halt" (kt_M502.2.2.2.2.getD []) = some (some 46) := by
  show kx_hd _ _ _ _ [(20, 45, 46, 7)] = _
  unfold kx_hd
  have e : kx_kl (zV E) "MeetingHouseModel" 7 = some "MeetingHouseModel$Halt" := (show kt_get kt_klA "MeetingHouseModel" 7 = some "MeetingHouseModel$Halt" from by decide +kernel)
  rw [if_pos (by decide), if_neg (by decide), e]
  simp only
  rw [if_pos zcast_X13]
theorem zhx_X13_parses_30 {E : zE} : kx_hd (zV E) "MeetingHouseModel" 30 "MeetingHouseModel$Halt" (kt_M502.2.2.2.2.getD []) = some (some 46) := by
  show kx_hd _ _ _ _ [(20, 45, 46, 7)] = _
  unfold kx_hd
  have e : kx_kl (zV E) "MeetingHouseModel" 7 = some "MeetingHouseModel$Halt" := (show kt_get kt_klA "MeetingHouseModel" 7 = some "MeetingHouseModel$Halt" from by decide +kernel)
  rw [if_pos (by decide), if_neg (by decide), e]
  simp only
  rw [if_pos zcast_X13]
theorem zhx_X13_parses_40 {E : zE} : kx_hd (zV E) "MeetingHouseModel" 40 "MeetingHouseModel$Halt" (kt_M502.2.2.2.2.getD []) = some (some 46) := by
  show kx_hd _ _ _ _ [(20, 45, 46, 7)] = _
  unfold kx_hd
  have e : kx_kl (zV E) "MeetingHouseModel" 7 = some "MeetingHouseModel$Halt" := (show kt_get kt_klA "MeetingHouseModel" 7 = some "MeetingHouseModel$Halt" from by decide +kernel)
  rw [if_pos (by decide), if_neg (by decide), e]
  simp only
  rw [if_pos zcast_X13]
theorem zhx_X13_parses_43 {E : zE} : kx_hd (zV E) "MeetingHouseModel" 43 "MeetingHouseModel$Halt" (kt_M502.2.2.2.2.getD []) = some (some 46) := by
  show kx_hd _ _ _ _ [(20, 45, 46, 7)] = _
  unfold kx_hd
  have e : kx_kl (zV E) "MeetingHouseModel" 7 = some "MeetingHouseModel$Halt" := (show kt_get kt_klA "MeetingHouseModel" 7 = some "MeetingHouseModel$Halt" from by decide +kernel)
  rw [if_pos (by decide), if_neg (by decide), e]
  simp only
  rw [if_pos zcast_X13]
theorem zhx_X13_proceed_1 {E : zE} : kx_hd (zV E) "MeetingHouseModel" 1 "MeetingHouseModel$Halt" (kt_M513.2.2.2.2.getD []) = some (some 7) := by
  show kx_hd _ _ _ _ [(0, 4, 7, 7)] = _
  unfold kx_hd
  have e : kx_kl (zV E) "MeetingHouseModel" 7 = some "MeetingHouseModel$Halt" := (show kt_get kt_klA "MeetingHouseModel" 7 = some "MeetingHouseModel$Halt" from by decide +kernel)
  rw [if_pos (by decide), if_neg (by decide), e]
  simp only
  rw [if_pos zcast_X13]
theorem zhx_X13_receive_205 {E : zE} : kx_hd (zV E) "MeetingHouseModel" 205 "MeetingHouseModel$Halt" (kt_M522.2.2.2.2.getD []) = some (some 221) := by
  show kx_hd _ _ _ _ [(201, 218, 221, 7)] = _
  unfold kx_hd
  have e : kx_kl (zV E) "MeetingHouseModel" 7 = some "MeetingHouseModel$Halt" := (show kt_get kt_klA "MeetingHouseModel" 7 = some "MeetingHouseModel$Halt" from by decide +kernel)
  rw [if_pos (by decide), if_neg (by decide), e]
  simp only
  rw [if_pos zcast_X13]
theorem zhx_X13_step_156 {E : zE} : kx_hd (zV E) "MeetingHouseModel" 156 "MeetingHouseModel$Halt" (kt_M544.2.2.2.2.getD []) = some (some 188) := by
  show kx_hd _ _ _ _ [(155, 185, 188, 7)] = _
  unfold kx_hd
  have e : kx_kl (zV E) "MeetingHouseModel" 7 = some "MeetingHouseModel$Halt" := (show kt_get kt_klA "MeetingHouseModel" 7 = some "MeetingHouseModel$Halt" from by decide +kernel)
  rw [if_pos (by decide), if_neg (by decide), e]
  simp only
  rw [if_pos zcast_X13]
theorem zhx_X13_step_161 {E : zE} : kx_hd (zV E) "MeetingHouseModel" 161 "MeetingHouseModel$Halt" (kt_M544.2.2.2.2.getD []) = some (some 188) := by
  show kx_hd _ _ _ _ [(155, 185, 188, 7)] = _
  unfold kx_hd
  have e : kx_kl (zV E) "MeetingHouseModel" 7 = some "MeetingHouseModel$Halt" := (show kt_get kt_klA "MeetingHouseModel" 7 = some "MeetingHouseModel$Halt" from by decide +kernel)
  rw [if_pos (by decide), if_neg (by decide), e]
  simp only
  rw [if_pos zcast_X13]
theorem zhx_X13_step_175 {E : zE} : kx_hd (zV E) "MeetingHouseModel" 175 "MeetingHouseModel$Halt" (kt_M544.2.2.2.2.getD []) = some (some 188) := by
  show kx_hd _ _ _ _ [(155, 185, 188, 7)] = _
  unfold kx_hd
  have e : kx_kl (zV E) "MeetingHouseModel" 7 = some "MeetingHouseModel$Halt" := (show kt_get kt_klA "MeetingHouseModel" 7 = some "MeetingHouseModel$Halt" from by decide +kernel)
  rw [if_pos (by decide), if_neg (by decide), e]
  simp only
  rw [if_pos zcast_X13]
theorem zhx_X13_step_182 {E : zE} : kx_hd (zV E) "MeetingHouseModel" 182 "MeetingHouseModel$Halt" (kt_M544.2.2.2.2.getD []) = some (some 188) := by
  show kx_hd _ _ _ _ [(155, 185, 188, 7)] = _
  unfold kx_hd
  have e : kx_kl (zV E) "MeetingHouseModel" 7 = some "MeetingHouseModel$Halt" := (show kt_get kt_klA "MeetingHouseModel" 7 = some "MeetingHouseModel$Halt" from by decide +kernel)
  rw [if_pos (by decide), if_neg (by decide), e]
  simp only
  rw [if_pos zcast_X13]
theorem wq_X13_713 {adE adK adV : Nat → Nat} {zr : Nat → Value} {b L0 : Nat} {xs : Nat → Int32} {lo : Nat} : wP (kw_V adE adK adV zr b L0 xs lo) wG "MeetingHouseModel" 713 12 43 0 .int := wPb_ok (by decide +kernel) wf_X13_713 (r := "MeetingHouseModel") (n := "program") (d := "I") (by decide +kernel) (by decide +kernel)
def zL_X13_scan_p197 (E : zE) (L : Nat) (Q : kx_Rs → wS → Prop) (x3 : Int32) (x4 : Int32) (x5 : Int32) (x6 : Int32) (w : wS) : Prop := kzE E L kt_M530 197 [(0, .ref (w_adr E.2.1 12 0)), (3, .int x3), (4, .int x4), (5, .int x5), (6, .int x6)] [] w Q
def zL_X13_scan_p181 (E : zE) (L : Nat) (Q : kx_Rs → wS → Prop) (x3 : Int32) (x4 : Int32) (w : wS) : Prop := kzE E L kt_M530 181 [(0, .ref (w_adr E.2.1 12 0)), (3, .int x3), (4, .int x4)] [] w Q
def zL_X13_scan_p18 (E : zE) (L : Nat) (Q : kx_Rs → wS → Prop) (x2 : Int32) (w : wS) : Prop := kzE E L kt_M530 18 [(0, .ref (w_adr E.2.1 12 0)), (2, .int x2)] [] w Q
def zb_X13_scan_p326 (E : zE) (L : Nat) (Q : kx_Rs → wS → Prop) (x3 : Int32) (w : wS) : Prop := Q (.inl (some (.int x3))) w
theorem zt_X13_scan_p326 {E : zE} {L : Nat} {Q : kx_Rs → wS → Prop} {x3 : Int32} {w : wS} (hL : 120 ≤ L) (h : zb_X13_scan_p326 E L Q x3 w) : kzE E L kt_M530 326 [(0, .ref (w_adr E.2.1 12 0)), (3, .int x3)] [] w Q := by
  unfold zb_X13_scan_p326 at h
  refine kz_iload_n (M := kt_M530) kX13_scan_c21.2.2.2.2.2.2.2.1 rfl ?_
  exact kz_iret (M := kt_M530) kX13_scan_c22.1 rfl rfl h
def zb_X13_scan_p293 (E : zE) (L : Nat) (Q : kx_Rs → wS → Prop) (x3 : Int32) (x4 : Int32) (w : wS) : Prop := zL_X13_scan_p181 E L Q x3 (x4 + 1) w
theorem zt_X13_scan_p293 {E : zE} {L : Nat} {Q : kx_Rs → wS → Prop} {x3 : Int32} {x4 : Int32} {w : wS} (hL : 120 ≤ L) (h : zb_X13_scan_p293 E L Q x3 x4 w) : kzE E L kt_M530 293 [(0, .ref (w_adr E.2.1 12 0)), (3, .int x3), (4, .int x4)] [] w Q := by
  unfold zb_X13_scan_p293 at h
  refine kz_inc (M := kt_M530) [(0, .ref (w_adr E.2.1 12 0)), (3, .int x3)] kX13_scan_c19.2.2.2.2.2.2.1 rfl (Nat.le_of_ble_eq_true rfl) ⟨⟨rfl, rfl, .inl rfl⟩, ⟨⟨rfl, rfl, .inr rfl⟩, trivial⟩⟩ rfl ?_
  refine kz_goto (M := kt_M530) kX13_scan_c19.2.2.2.2.2.2.2.1 (t := 181) rfl ?_
  exact kz_weak [(0, .ref (w_adr E.2.1 12 0)), (3, .int x3), (4, .int (x4 + 1))] ⟨rfl, ⟨rfl, ⟨rfl, trivial⟩⟩⟩ rfl h
def zb_X13_scan_p287 (E : zE) (L : Nat) (Q : kx_Rs → wS → Prop) (x4 : Int32) (w : wS) : Prop := zb_X13_scan_p293 E L Q (40 + x4) x4 w
theorem zt_X13_scan_p287 {E : zE} {L : Nat} {Q : kx_Rs → wS → Prop} {x4 : Int32} {w : wS} (hL : 120 ≤ L) (h : zb_X13_scan_p287 E L Q x4 w) : kzE E L kt_M530 287 [(0, .ref (w_adr E.2.1 12 0)), (4, .int x4)] [] w Q := by
  unfold zb_X13_scan_p287 at h
  refine kz_bi (M := kt_M530) 40 kX13_scan_c19.2.2.1 rfl ?_
  refine kz_iload (M := kt_M530) kX13_scan_c19.2.2.2.1 rfl ?_
  refine kz_iadd (M := kt_M530) kX13_scan_c19.2.2.2.2.1 ?_
  refine kz_sti_n (M := kt_M530) [(0, .ref (w_adr E.2.1 12 0)), (4, .int x4)] kX13_scan_c19.2.2.2.2.2.1 (Nat.le_of_ble_eq_true rfl) ⟨⟨rfl, rfl, .inl rfl⟩, ⟨⟨rfl, rfl, .inl rfl⟩, trivial⟩⟩ rfl ?_
  exact kz_weak [(0, .ref (w_adr E.2.1 12 0)), (3, .int (40 + x4)), (4, .int x4)] ⟨rfl, ⟨rfl, ⟨rfl, trivial⟩⟩⟩ rfl (zt_X13_scan_p293 hL  h)
def zb_X13_scan_p251 (E : zE) (L : Nat) (Q : kx_Rs → wS → Prop) (x3 : Int32) (x4 : Int32) (x5 : Int32) (w : wS) : Prop := (if x5 = 0 then zb_X13_scan_p293 E L Q x3 x4 w else (if x3 = 76 then zb_X13_scan_p287 E L Q x4 w else (kx_inb x4 (w_n w 12 0 5) = true ∧ (∃ i1, zK E (w_r w 12 0 5 (x4).toNatClampNeg) i1 ∧ (kx_inb (x3 - 40) (w_n w 12 0 5) = true ∧ (∃ i2, zK E (w_r w 12 0 5 ((x3 - 40)).toNatClampNeg) i2 ∧ (if (Int32.ofNat (kw_sl i1)) ≤ (Int32.ofNat (kw_sl i2)) then zb_X13_scan_p293 E L Q x3 x4 w else zb_X13_scan_p287 E L Q x4 w)))))))
theorem zt_X13_scan_p251 {E : zE} {L : Nat} {Q : kx_Rs → wS → Prop} {x3 : Int32} {x4 : Int32} {x5 : Int32} {w : wS} (hL : 120 ≤ L) (h : zb_X13_scan_p251 E L Q x3 x4 x5 w) : kzE E L kt_M530 251 [(0, .ref (w_adr E.2.1 12 0)), (3, .int x3), (4, .int x4), (5, .int x5)] [] w Q := by
  unfold zb_X13_scan_p251 at h
  refine kz_iload (M := kt_M530) kX13_scan_c17.1 rfl ?_
  refine kz_if_eq (M := kt_M530) kX13_scan_c17.2.1 (t := 293) rfl h (fun h => ?_) (fun h => ?_)
  · skip
    exact kz_weak [(0, .ref (w_adr E.2.1 12 0)), (3, .int x3), (4, .int x4)] ⟨rfl, ⟨rfl, ⟨rfl, trivial⟩⟩⟩ rfl (zt_X13_scan_p293 hL  h)
  · skip
    refine kz_iload_n (M := kt_M530) kX13_scan_c17.2.2.1 rfl ?_
    refine kz_bi (M := kt_M530) 76 kX13_scan_c17.2.2.2.1 rfl ?_
    refine kz_icmp_eq (M := kt_M530) kX13_scan_c17.2.2.2.2.1 (t := 287) rfl h (fun h => ?_) (fun h => ?_)
    · skip
      exact kz_weak [(0, .ref (w_adr E.2.1 12 0)), (4, .int x4)] ⟨rfl, ⟨rfl, trivial⟩⟩ rfl (zt_X13_scan_p287 hL  h)
    · skip
      refine kz_aload_n (M := kt_M530) kX13_scan_c17.2.2.2.2.2.1 rfl ?_
      refine kz_gfc (M := kt_M530) (x := 4077) (c := 12) (o := 0) kX13_scan_c17.2.2.2.2.2.2.1 wf_X13_154 (.inl rfl) ?_
      refine kz_iload (M := kt_M530) kX13_scan_c17.2.2.2.2.2.2.2.1 rfl ?_
      refine kz_aald (M := kt_M530) (τ := 5) (c := 12) (o := 0) (k := 5) (a := (E.2.1 4077)) kX13_scan_c18.1 ow_12_0_5 oa_12_0_5 ot_9 rfl h (fun h => ?_)
      obtain ⟨i1, ho, h⟩ := h
      refine kz_slen (M := kt_M530) (x := w_r w 12 0 5 (x4).toNatClampNeg) (i := i1) kX13_scan_c18.2.1 wl_X13_481 (Nat.le_trans (Nat.le_of_ble_eq_true rfl) hL) (Nat.le_of_ble_eq_true rfl) ho ?_
      refine kz_aload_n (M := kt_M530) kX13_scan_c18.2.2.1 rfl ?_
      refine kz_gfc (M := kt_M530) (x := 4077) (c := 12) (o := 0) kX13_scan_c18.2.2.2.1 wf_X13_154 (.inl rfl) ?_
      refine kz_iload_n (M := kt_M530) kX13_scan_c18.2.2.2.2.1 rfl ?_
      refine kz_bi (M := kt_M530) 40 kX13_scan_c18.2.2.2.2.2.1 rfl ?_
      refine kz_isub (M := kt_M530) kX13_scan_c18.2.2.2.2.2.2.1 ?_
      refine kz_aald (M := kt_M530) (τ := 5) (c := 12) (o := 0) (k := 5) (a := (E.2.1 4077)) kX13_scan_c18.2.2.2.2.2.2.2.1 ow_12_0_5 oa_12_0_5 ot_9 rfl h (fun h => ?_)
      obtain ⟨i2, ho, h⟩ := h
      refine kz_slen (M := kt_M530) (x := w_r w 12 0 5 ((x3 - 40)).toNatClampNeg) (i := i2) kX13_scan_c19.1 wl_X13_481 (Nat.le_trans (Nat.le_of_ble_eq_true rfl) hL) (Nat.le_of_ble_eq_true rfl) ho ?_
      refine kz_icmp_le (M := kt_M530) kX13_scan_c19.2.1 (t := 293) rfl h (fun h => ?_) (fun h => ?_)
      · skip
        exact kz_weak [(0, .ref (w_adr E.2.1 12 0)), (3, .int x3), (4, .int x4)] ⟨rfl, ⟨rfl, ⟨rfl, trivial⟩⟩⟩ rfl (zt_X13_scan_p293 hL  h)
      · skip
        exact kz_weak [(0, .ref (w_adr E.2.1 12 0)), (4, .int x4)] ⟨rfl, ⟨rfl, trivial⟩⟩ rfl (zt_X13_scan_p287 hL  h)
def zb_X13_scan_p243 (E : zE) (L : Nat) (Q : kx_Rs → wS → Prop) (x3 : Int32) (x4 : Int32) (x6 : Int32) (y0 : Int32) (w : wS) : Prop := zL_X13_scan_p197 E L Q x3 x4 y0 (x6 + 1) w
theorem zt_X13_scan_p243 {E : zE} {L : Nat} {Q : kx_Rs → wS → Prop} {x3 : Int32} {x4 : Int32} {x6 : Int32} {y0 : Int32} {w : wS} (hL : 120 ≤ L) (h : zb_X13_scan_p243 E L Q x3 x4 x6 y0 w) : kzE E L kt_M530 243 [(0, .ref (w_adr E.2.1 12 0)), (3, .int x3), (4, .int x4), (6, .int x6)] [.int y0] w Q := by
  unfold zb_X13_scan_p243 at h
  refine kz_sti (M := kt_M530) [(0, .ref (w_adr E.2.1 12 0)), (3, .int x3), (4, .int x4), (6, .int x6)] kX13_scan_c16.2.2.2.2.2.1 (Nat.le_of_ble_eq_true rfl) ⟨⟨rfl, rfl, .inl rfl⟩, ⟨⟨rfl, rfl, .inl rfl⟩, ⟨⟨rfl, rfl, .inr rfl⟩, ⟨⟨rfl, rfl, .inl rfl⟩, trivial⟩⟩⟩⟩ rfl ?_
  refine kz_inc (M := kt_M530) [(0, .ref (w_adr E.2.1 12 0)), (3, .int x3), (4, .int x4), (5, .int y0)] kX13_scan_c16.2.2.2.2.2.2.1 rfl (Nat.le_of_ble_eq_true rfl) ⟨⟨rfl, rfl, .inl rfl⟩, ⟨⟨rfl, rfl, .inl rfl⟩, ⟨⟨rfl, rfl, .inl rfl⟩, ⟨⟨rfl, rfl, .inr rfl⟩, trivial⟩⟩⟩⟩ rfl ?_
  refine kz_goto (M := kt_M530) kX13_scan_c16.2.2.2.2.2.2.2.1 (t := 197) rfl ?_
  exact kz_weak [(0, .ref (w_adr E.2.1 12 0)), (3, .int x3), (4, .int x4), (5, .int y0), (6, .int (x6 + 1))] ⟨rfl, ⟨rfl, ⟨rfl, ⟨rfl, ⟨rfl, trivial⟩⟩⟩⟩⟩ rfl h
def zb_X13_scan_p197 (E : zE) (L : Nat) (Q : kx_Rs → wS → Prop) (x3 : Int32) (x4 : Int32) (x5 : Int32) (x6 : Int32) (w : wS) : Prop := (kx_inb x4 (w_n w 12 0 5) = true ∧ (∃ i1, zK E (w_r w 12 0 5 (x4).toNatClampNeg) i1 ∧ (if (Int32.ofNat (kw_sl i1)) ≤ x6 then zb_X13_scan_p251 E L Q x3 x4 x5 w else (if x5 = 0 then zb_X13_scan_p251 E L Q x3 x4 x5 w else zw E (L - 21) kt_M429 [.ref (w_adr E.2.1 12 0), .int x6] w (wk1 (fun v3 w2 => wle w w2 → (kx_inb x4 (w_n w2 12 0 5) = true ∧ (∃ i4, zK E (w_r w2 12 0 5 (x4).toNatClampNeg) i4 ∧ kx_inb x6 (kw_sl i4) = true ∧ (if ¬ v3 = (kw_sc i4 (x6).toNatClampNeg) then zb_X13_scan_p243 E L Q x3 x4 x6 0 w2 else zb_X13_scan_p243 E L Q x3 x4 x6 1 w2)))) (fun e w => Q (.inr e) w))))))
theorem zt_X13_scan_p197 {E : zE} {L : Nat} {Q : kx_Rs → wS → Prop} {x3 : Int32} {x4 : Int32} {x5 : Int32} {x6 : Int32} {w : wS} (hL : 120 ≤ L) (h : zb_X13_scan_p197 E L Q x3 x4 x5 x6 w) : kzE E L kt_M530 197 [(0, .ref (w_adr E.2.1 12 0)), (3, .int x3), (4, .int x4), (5, .int x5), (6, .int x6)] [] w Q := by
  unfold zb_X13_scan_p197 at h
  refine kz_iload (M := kt_M530) kX13_scan_c13.2.2.2.2.2.2.2.1 rfl ?_
  refine kz_aload_n (M := kt_M530) kX13_scan_c14.1 rfl ?_
  refine kz_gfc (M := kt_M530) (x := 4077) (c := 12) (o := 0) kX13_scan_c14.2.1 wf_X13_154 (.inl rfl) ?_
  refine kz_iload (M := kt_M530) kX13_scan_c14.2.2.1 rfl ?_
  refine kz_aald (M := kt_M530) (τ := 5) (c := 12) (o := 0) (k := 5) (a := (E.2.1 4077)) kX13_scan_c14.2.2.2.1 ow_12_0_5 oa_12_0_5 ot_9 rfl h (fun h => ?_)
  obtain ⟨i1, ho, h⟩ := h
  refine kz_slen (M := kt_M530) (x := w_r w 12 0 5 (x4).toNatClampNeg) (i := i1) kX13_scan_c14.2.2.2.2.1 wl_X13_481 (Nat.le_trans (Nat.le_of_ble_eq_true rfl) hL) (Nat.le_of_ble_eq_true rfl) ho ?_
  refine kz_icmp_ge (M := kt_M530) kX13_scan_c14.2.2.2.2.2.1 (t := 251) rfl h (fun h => ?_) (fun h => ?_)
  · skip
    exact kz_weak [(0, .ref (w_adr E.2.1 12 0)), (3, .int x3), (4, .int x4), (5, .int x5)] ⟨rfl, ⟨rfl, ⟨rfl, ⟨rfl, trivial⟩⟩⟩⟩ rfl (zt_X13_scan_p251 hL  h)
  · skip
    refine kz_iload (M := kt_M530) kX13_scan_c14.2.2.2.2.2.2.1 rfl ?_
    refine kz_if_eq (M := kt_M530) kX13_scan_c14.2.2.2.2.2.2.2.1 (t := 251) rfl h (fun h => ?_) (fun h => ?_)
    · skip
      exact kz_weak [(0, .ref (w_adr E.2.1 12 0)), (3, .int x3), (4, .int x4), (5, .int x5)] ⟨rfl, ⟨rfl, ⟨rfl, ⟨rfl, trivial⟩⟩⟩⟩ rfl (zt_X13_scan_p251 hL  h)
    · skip
      refine kz_aload_n (M := kt_M530) kX13_scan_c15.1 rfl ?_
      refine kz_iload (M := kt_M530) kX13_scan_c15.2.1 rfl ?_
      refine kz_cv1 (M := kt_M530) (c := 12) (o := 0) (As := [.int x6]) (rest := []) kX13_scan_c15.2.2.1 wl_X13_489 wMv_429 rfl (.inl rfl) rfl (Nat.le_trans (Nat.le_of_ble_eq_true rfl) hL) (Nat.le_of_ble_eq_true rfl) (Nat.le_of_ble_eq_true rfl) h (fun v3 w2 hle h => ?_) (fun _ _ _ h => kzx_no rfl h)
      have h := h hle
      refine kz_aload_n (M := kt_M530) kX13_scan_c15.2.2.2.1 rfl ?_
      refine kz_gfc (M := kt_M530) (x := 4077) (c := 12) (o := 0) kX13_scan_c15.2.2.2.2.1 wf_X13_154 (.inl rfl) ?_
      refine kz_iload (M := kt_M530) kX13_scan_c15.2.2.2.2.2.1 rfl ?_
      refine kz_aald (M := kt_M530) (τ := 5) (c := 12) (o := 0) (k := 5) (a := (E.2.1 4077)) kX13_scan_c15.2.2.2.2.2.2.1 ow_12_0_5 oa_12_0_5 ot_9 rfl h (fun h => ?_)
      refine kz_iload (M := kt_M530) kX13_scan_c15.2.2.2.2.2.2.2.1 rfl ?_
      obtain ⟨i4, ho, hb, h⟩ := h
      refine kz_sat (M := kt_M530) (x := w_r w2 12 0 5 (x4).toNatClampNeg) (i := i4) kX13_scan_c16.1 wl_X13_485 (Nat.le_trans (Nat.le_of_ble_eq_true rfl) hL) (by simp [kx_cat, w_cat, z_ci, z_cr, z_cl, z_cn]) ho hb ?_
      refine kz_icmp_ne (M := kt_M530) kX13_scan_c16.2.1 (t := 242) rfl h (fun h => ?_) (fun h => ?_)
      · skip
        refine kz_ic (M := kt_M530) 0 kX13_scan_c16.2.2.2.2.1 rfl ?_
        exact kz_weak [(0, .ref (w_adr E.2.1 12 0)), (3, .int x3), (4, .int x4), (6, .int x6)] ⟨rfl, ⟨rfl, ⟨rfl, ⟨rfl, trivial⟩⟩⟩⟩ rfl (zt_X13_scan_p243 hL  h)
      · skip
        refine kz_ic (M := kt_M530) 1 kX13_scan_c16.2.2.1 rfl ?_
        refine kz_goto (M := kt_M530) kX13_scan_c16.2.2.2.1 (t := 243) rfl ?_
        exact kz_weak [(0, .ref (w_adr E.2.1 12 0)), (3, .int x3), (4, .int x4), (6, .int x6)] ⟨rfl, ⟨rfl, ⟨rfl, ⟨rfl, trivial⟩⟩⟩⟩ rfl (zt_X13_scan_p243 hL  h)
def zb_X13_scan_p181 (E : zE) (L : Nat) (Q : kx_Rs → wS → Prop) (x3 : Int32) (x4 : Int32) (w : wS) : Prop := (if (Int32.ofNat (w_n w 12 0 5)) ≤ x4 then (if x3 = 76 then zb_X13_scan_p326 E L Q x3 w else (kx_inb (x3 - 40) (w_n w 12 0 5) = true ∧ (∃ i1, zK E (w_r w 12 0 5 ((x3 - 40)).toNatClampNeg) i1 ∧ zb_X13_scan_p326 E L Q x3 (ws_i w 12 0 23 ((w_i w 12 0 23) + (Int32.ofNat (kw_sl i1))))))) else zL_X13_scan_p197 E L Q x3 x4 1 0 w)
theorem zt_X13_scan_p181 {E : zE} {L : Nat} {Q : kx_Rs → wS → Prop} {x3 : Int32} {x4 : Int32} {w : wS} (hL : 120 ≤ L) (h : zb_X13_scan_p181 E L Q x3 x4 w) : kzE E L kt_M530 181 [(0, .ref (w_adr E.2.1 12 0)), (3, .int x3), (4, .int x4)] [] w Q := by
  unfold zb_X13_scan_p181 at h
  refine kz_iload (M := kt_M530) kX13_scan_c12.2.2.2.2.2.2.1 rfl ?_
  refine kz_aload_n (M := kt_M530) kX13_scan_c12.2.2.2.2.2.2.2.1 rfl ?_
  refine kz_gfc (M := kt_M530) (x := 4077) (c := 12) (o := 0) kX13_scan_c13.1 wf_X13_154 (.inl rfl) ?_
  refine kz_alen (M := kt_M530) (c := 12) (o := 0) (k := 5) (a := (E.2.1 4077)) (τ := 9) kX13_scan_c13.2.1 ow_12_0_5 oa_12_0_5 (Nat.le_of_ble_eq_true rfl) ?_
  refine kz_icmp_ge (M := kt_M530) kX13_scan_c13.2.2.1 (t := 299) rfl h (fun h => ?_) (fun h => ?_)
  · skip
    refine kz_iload_n (M := kt_M530) kX13_scan_c20.1 rfl ?_
    refine kz_bi (M := kt_M530) 76 kX13_scan_c20.2.1 rfl ?_
    refine kz_icmp_eq (M := kt_M530) kX13_scan_c20.2.2.1 (t := 326) rfl h (fun h => ?_) (fun h => ?_)
    · skip
      exact kz_weak [(0, .ref (w_adr E.2.1 12 0)), (3, .int x3)] ⟨rfl, ⟨rfl, trivial⟩⟩ rfl (zt_X13_scan_p326 hL  h)
    · skip
      refine kz_aload_n (M := kt_M530) kX13_scan_c20.2.2.2.1 rfl ?_
      refine kz_dup (M := kt_M530) kX13_scan_c20.2.2.2.2.1 rfl ?_
      refine kz_gfi (M := kt_M530) (c := 12) (o := 0) kX13_scan_c20.2.2.2.2.2.1 wf_X13_462 (.inl rfl) ?_
      refine kz_aload_n (M := kt_M530) kX13_scan_c20.2.2.2.2.2.2.1 rfl ?_
      refine kz_gfc (M := kt_M530) (x := 4077) (c := 12) (o := 0) kX13_scan_c20.2.2.2.2.2.2.2.1 wf_X13_154 (.inl rfl) ?_
      refine kz_iload_n (M := kt_M530) kX13_scan_c21.1 rfl ?_
      refine kz_bi (M := kt_M530) 40 kX13_scan_c21.2.1 rfl ?_
      refine kz_isub (M := kt_M530) kX13_scan_c21.2.2.1 ?_
      refine kz_aald (M := kt_M530) (τ := 5) (c := 12) (o := 0) (k := 5) (a := (E.2.1 4077)) kX13_scan_c21.2.2.2.1 ow_12_0_5 oa_12_0_5 ot_9 rfl h (fun h => ?_)
      obtain ⟨i1, ho, h⟩ := h
      refine kz_slen (M := kt_M530) (x := w_r w 12 0 5 ((x3 - 40)).toNatClampNeg) (i := i1) kX13_scan_c21.2.2.2.2.1 wl_X13_481 (Nat.le_trans (Nat.le_of_ble_eq_true rfl) hL) (Nat.le_of_ble_eq_true rfl) ho ?_
      refine kz_iadd (M := kt_M530) kX13_scan_c21.2.2.2.2.2.1 ?_
      refine kz_pfi (M := kt_M530) (c := 12) (o := 0) kX13_scan_c21.2.2.2.2.2.2.1 wq_X13_462 (.inl rfl) ?_
      exact kz_weak [(0, .ref (w_adr E.2.1 12 0)), (3, .int x3)] ⟨rfl, ⟨rfl, trivial⟩⟩ rfl (zt_X13_scan_p326 hL  h)
  · skip
    refine kz_ic (M := kt_M530) 1 kX13_scan_c13.2.2.2.1 rfl ?_
    refine kz_sti (M := kt_M530) [(0, .ref (w_adr E.2.1 12 0)), (3, .int x3), (4, .int x4)] kX13_scan_c13.2.2.2.2.1 (Nat.le_of_ble_eq_true rfl) ⟨⟨rfl, rfl, .inl rfl⟩, ⟨⟨rfl, rfl, .inl rfl⟩, ⟨⟨rfl, rfl, .inr rfl⟩, trivial⟩⟩⟩ rfl ?_
    refine kz_ic (M := kt_M530) 0 kX13_scan_c13.2.2.2.2.2.1 rfl ?_
    refine kz_sti (M := kt_M530) [(0, .ref (w_adr E.2.1 12 0)), (3, .int x3), (4, .int x4), (5, .int 1)] kX13_scan_c13.2.2.2.2.2.2.1 (Nat.le_of_ble_eq_true rfl) ⟨⟨rfl, rfl, .inl rfl⟩, ⟨⟨rfl, rfl, .inl rfl⟩, ⟨⟨rfl, rfl, .inl rfl⟩, ⟨⟨rfl, rfl, .inr rfl⟩, trivial⟩⟩⟩⟩ rfl ?_
    exact kz_weak [(0, .ref (w_adr E.2.1 12 0)), (3, .int x3), (4, .int x4), (5, .int 1), (6, .int 0)] ⟨rfl, ⟨rfl, ⟨rfl, ⟨rfl, ⟨rfl, trivial⟩⟩⟩⟩⟩ rfl h
def zb_X13_scan_p148 (E : zE) (L : Nat) (Q : kx_Rs → wS → Prop) (w : wS) : Prop := Q (.inl (some (.int 76))) w
theorem zt_X13_scan_p148 {E : zE} {L : Nat} {Q : kx_Rs → wS → Prop} {w : wS} (hL : 120 ≤ L) (h : zb_X13_scan_p148 E L Q  w) : kzE E L kt_M530 148 [(0, .ref (w_adr E.2.1 12 0))] [] w Q := by
  unfold zb_X13_scan_p148 at h
  refine kz_bi (M := kt_M530) 76 kX13_scan_c10.2.2.1 rfl ?_
  exact kz_iret (M := kt_M530) kX13_scan_c10.2.2.2.1 rfl rfl h
def zb_X13_scan_p18 (E : zE) (L : Nat) (Q : kx_Rs → wS → Prop) (x2 : Int32) (w : wS) : Prop := zw E (L - 21) kt_M429 [.ref (w_adr E.2.1 12 0), .int 0] w (wk1 (fun v2 w1 => wle w w1 → zw E (L - 20) kt_M421 [.int v2] w1 (wk1 (fun v4 w3 => wle w1 w3 → (if v4 = 0 then (if ((w_i w3 12 0 23) - x2) ≤ 16 then zw E (L - 25) kt_M604 [.ref (w_adr E.2.1 12 0), .int x2, .int ((w_i w3 12 0 23) - x2)] w3 (wk1 (fun v6 w5 => wle w3 w5 → (if v6 < 0 then zw E (L - 25) kt_M480 [.ref (w_adr E.2.1 12 0), .int x2, .int ((w_i w5 12 0 23) - x2)] w5 (wk1 (fun v8 w7 => wle w5 w7 → Q (.inl (some (.int 70))) (ws_i w7 12 0 24 v8)) (fun e w => Q (.inr e) w)) else Q (.inl (some (.int v6))) w5)) (fun e w => Q (.inr e) w)) else Q (.inl (some (.int 76))) w3) else zL_X13_scan_p18 E L Q x2 (ws_i w3 12 0 23 ((w_i w3 12 0 23) + 1)))) (fun e w => Q (.inr e) w))) (fun e w => Q (.inr e) w))
theorem zt_X13_scan_p18 {E : zE} {L : Nat} {Q : kx_Rs → wS → Prop} {x2 : Int32} {w : wS} (hL : 120 ≤ L) (h : zb_X13_scan_p18 E L Q x2 w) : kzE E L kt_M530 18 [(0, .ref (w_adr E.2.1 12 0)), (2, .int x2)] [] w Q := by
  unfold zb_X13_scan_p18 at h
  refine kz_aload_n (M := kt_M530) kX13_scan_c1.2.2.1 rfl ?_
  refine kz_ic (M := kt_M530) 0 kX13_scan_c1.2.2.2.1 rfl ?_
  refine kz_cv1 (M := kt_M530) (c := 12) (o := 0) (As := [.int 0]) (rest := []) kX13_scan_c1.2.2.2.2.1 wl_X13_489 wMv_429 rfl (.inl rfl) rfl (Nat.le_trans (Nat.le_of_ble_eq_true rfl) hL) (Nat.le_of_ble_eq_true rfl) (Nat.le_of_ble_eq_true rfl) h (fun v2 w1 hle h => ?_) (fun _ _ _ h => kzx_no rfl h)
  have h := h hle
  refine kz_cs1 (M := kt_M530) (As := [.int v2]) (rest := []) kX13_scan_c1.2.2.2.2.2.1 wl_X13_496 wMs_421 rfl (Nat.le_trans (Nat.le_of_ble_eq_true rfl) hL) (Nat.le_of_ble_eq_true rfl) (Nat.le_of_ble_eq_true rfl) h (fun v4 w3 hle h => ?_) (fun _ _ _ h => kzx_no rfl h)
  have h := h hle
  refine kz_if_eq (M := kt_M530) kX13_scan_c1.2.2.2.2.2.2.1 (t := 42) rfl h (fun h => ?_) (fun h => ?_)
  · skip
    refine kz_aload_n (M := kt_M530) kX13_scan_c2.2.2.2.2.2.2.1 rfl ?_
    refine kz_gfi (M := kt_M530) (c := 12) (o := 0) kX13_scan_c2.2.2.2.2.2.2.2.1 wf_X13_462 (.inl rfl) ?_
    refine kz_iload_n (M := kt_M530) kX13_scan_c3.1 rfl ?_
    refine kz_isub (M := kt_M530) kX13_scan_c3.2.1 ?_
    refine kz_bi (M := kt_M530) 16 kX13_scan_c3.2.2.1 rfl ?_
    refine kz_icmp_le (M := kt_M530) kX13_scan_c3.2.2.2.1 (t := 56) rfl h (fun h => ?_) (fun h => ?_)
    · skip
      refine kz_aload_n (M := kt_M530) kX13_scan_c3.2.2.2.2.2.2.1 rfl ?_
      refine kz_iload_n (M := kt_M530) kX13_scan_c3.2.2.2.2.2.2.2.1 rfl ?_
      refine kz_aload_n (M := kt_M530) kX13_scan_c4.1 rfl ?_
      refine kz_gfi (M := kt_M530) (c := 12) (o := 0) kX13_scan_c4.2.1 wf_X13_462 (.inl rfl) ?_
      refine kz_iload_n (M := kt_M530) kX13_scan_c4.2.2.1 rfl ?_
      refine kz_isub (M := kt_M530) kX13_scan_c4.2.2.2.1 ?_
      refine kz_cv1 (M := kt_M530) (c := 12) (o := 0) (As := [.int x2, .int ((w_i w3 12 0 23) - x2)]) (rest := []) kX13_scan_c4.2.2.2.2.1 wl_X13_499 wMv_604 rfl (.inl rfl) rfl (Nat.le_trans (Nat.le_of_ble_eq_true rfl) hL) (Nat.le_of_ble_eq_true rfl) (Nat.le_of_ble_eq_true rfl) h (fun v6 w5 hle h => ?_) (fun _ _ _ h => kzx_no rfl h)
      have h := h hle
      refine kz_sti_n (M := kt_M530) [(0, .ref (w_adr E.2.1 12 0)), (2, .int x2)] kX13_scan_c4.2.2.2.2.2.1 (Nat.le_of_ble_eq_true rfl) ⟨⟨rfl, rfl, .inl rfl⟩, ⟨⟨rfl, rfl, .inr rfl⟩, trivial⟩⟩ rfl ?_
      refine kz_iload_n (M := kt_M530) kX13_scan_c4.2.2.2.2.2.2.1 rfl ?_
      refine kz_if_lt (M := kt_M530) kX13_scan_c4.2.2.2.2.2.2.2.1 (t := 74) rfl h (fun h => ?_) (fun h => ?_)
      · skip
        refine kz_aload_n (M := kt_M530) kX13_scan_c5.2.2.1 rfl ?_
        refine kz_aload_n (M := kt_M530) kX13_scan_c5.2.2.2.1 rfl ?_
        refine kz_iload_n (M := kt_M530) kX13_scan_c5.2.2.2.2.1 rfl ?_
        refine kz_aload_n (M := kt_M530) kX13_scan_c5.2.2.2.2.2.1 rfl ?_
        refine kz_gfi (M := kt_M530) (c := 12) (o := 0) kX13_scan_c5.2.2.2.2.2.2.1 wf_X13_462 (.inl rfl) ?_
        refine kz_iload_n (M := kt_M530) kX13_scan_c5.2.2.2.2.2.2.2.1 rfl ?_
        refine kz_isub (M := kt_M530) kX13_scan_c6.1 ?_
        refine kz_cv1 (M := kt_M530) (c := 12) (o := 0) (As := [.int x2, .int ((w_i w5 12 0 23) - x2)]) (rest := [.ref (w_adr E.2.1 12 0)]) kX13_scan_c6.2.1 wl_X13_503 wMv_480 rfl (.inl rfl) rfl (Nat.le_trans (Nat.le_of_ble_eq_true rfl) hL) (Nat.le_of_ble_eq_true rfl) (Nat.le_of_ble_eq_true rfl) h (fun v8 w7 hle h => ?_) (fun _ _ _ h => kzx_no rfl h)
        have h := h hle
        refine kz_pfi (M := kt_M530) (c := 12) (o := 0) kX13_scan_c6.2.2.1 wq_X13_493 (.inl rfl) ?_
        refine kz_bi (M := kt_M530) 70 kX13_scan_c6.2.2.2.1 rfl ?_
        exact kz_iret (M := kt_M530) kX13_scan_c6.2.2.2.2.1 rfl rfl h
      · skip
        refine kz_iload_n (M := kt_M530) kX13_scan_c5.1 rfl ?_
        exact kz_iret (M := kt_M530) kX13_scan_c5.2.1 rfl rfl h
    · skip
      refine kz_bi (M := kt_M530) 76 kX13_scan_c3.2.2.2.2.1 rfl ?_
      exact kz_iret (M := kt_M530) kX13_scan_c3.2.2.2.2.2.1 rfl rfl h
  · skip
    refine kz_aload_n (M := kt_M530) kX13_scan_c1.2.2.2.2.2.2.2.1 rfl ?_
    refine kz_dup (M := kt_M530) kX13_scan_c2.1 rfl ?_
    refine kz_gfi (M := kt_M530) (c := 12) (o := 0) kX13_scan_c2.2.1 wf_X13_462 (.inl rfl) ?_
    refine kz_ic (M := kt_M530) 1 kX13_scan_c2.2.2.1 rfl ?_
    refine kz_iadd (M := kt_M530) kX13_scan_c2.2.2.2.1 ?_
    refine kz_pfi (M := kt_M530) (c := 12) (o := 0) kX13_scan_c2.2.2.2.2.1 wq_X13_462 (.inl rfl) ?_
    refine kz_goto (M := kt_M530) kX13_scan_c2.2.2.2.2.2.1 (t := 18) rfl ?_
    exact kz_weak [(0, .ref (w_adr E.2.1 12 0)), (2, .int x2)] ⟨rfl, ⟨rfl, trivial⟩⟩ rfl h
def zb_X13_scan_p0 (E : zE) (L : Nat) (Q : kx_Rs → wS → Prop) (w : wS) : Prop := zw E (L - 21) kt_M429 [.ref (w_adr E.2.1 12 0), .int 0] w (wk1 (fun v2 w1 => wle w w1 → zw E (L - 20) kt_M443 [.int v2] w1 (wk1 (fun v4 w3 => wle w1 w3 → (if v4 = 0 then zw E (L - 20) kt_M441 [.int v2] w3 (wk1 (fun v6 w5 => wle w3 w5 → (if v6 = 0 then (if ¬ v2 = 35 then (if ¬ v2 = 39 then (if ¬ v2 = 34 then zL_X13_scan_p181 E L Q 76 0 w5 else zw E (L - 21) kt_M548 [.ref (w_adr E.2.1 12 0)] w5 (wk1 (fun v8 w7 => wle w5 w7 → Q (.inl (some (.int v8))) w7) (fun e w => Q (.inr e) w))) else zw E (L - 22) kt_M495 [.ref (w_adr E.2.1 12 0)] (ws_i w5 12 0 23 ((w_i w5 12 0 23) + 1)) (wk1 (fun v10 w9 => wle (ws_i w5 12 0 23 ((w_i w5 12 0 23) + 1)) w9 → (if v10 = 0 then zb_X13_scan_p148 E L Q w9 else zw E (L - 21) kt_M429 [.ref (w_adr E.2.1 12 0), .int 0] w9 (wk1 (fun v12 w11 => wle w9 w11 → (if v12 = 39 then Q (.inl (some (.int 72))) (ws_i w11 12 0 23 ((w_i w11 12 0 23) + 1)) else zb_X13_scan_p148 E L Q w11)) (fun e w => Q (.inr e) w)))) (fun e w => Q (.inr e) w))) else zw E (L - 22) kt_M537 [.ref (w_adr E.2.1 12 0)] w5 (wk1 (fun v14 w13 => wle w5 w13 → Q (.inl (some (.int v14))) w13) (fun e w => Q (.inr e) w))) else zw E (L - 23) kt_M382 [.ref (w_adr E.2.1 12 0)] w5 (wk1 (fun v16 w15 => wle w5 w15 → Q (.inl (some (.int v16))) w15) (fun e w => Q (.inr e) w)))) (fun e w => Q (.inr e) w)) else zL_X13_scan_p18 E L Q (w_i w1 12 0 23) w3)) (fun e w => Q (.inr e) w))) (fun e w => Q (.inr e) w))
theorem zt_X13_scan_p0 {E : zE} {L : Nat} {Q : kx_Rs → wS → Prop} {w : wS} (hL : 120 ≤ L) (h : zb_X13_scan_p0 E L Q  w) : kzE E L kt_M530 0 [(0, .ref (w_adr E.2.1 12 0))] [] w Q := by
  unfold zb_X13_scan_p0 at h
  refine kz_aload_n (M := kt_M530) kX13_scan_c0.1 rfl ?_
  refine kz_ic (M := kt_M530) 0 kX13_scan_c0.2.1 rfl ?_
  refine kz_cv1 (M := kt_M530) (c := 12) (o := 0) (As := [.int 0]) (rest := []) kX13_scan_c0.2.2.1 wl_X13_489 wMv_429 rfl (.inl rfl) rfl (Nat.le_trans (Nat.le_of_ble_eq_true rfl) hL) (Nat.le_of_ble_eq_true rfl) (Nat.le_of_ble_eq_true rfl) h (fun v2 w1 hle h => ?_) (fun _ _ _ h => kzx_no rfl h)
  have h := h hle
  refine kz_sti_n (M := kt_M530) [(0, .ref (w_adr E.2.1 12 0))] kX13_scan_c0.2.2.2.1 (Nat.le_of_ble_eq_true rfl) ⟨⟨rfl, rfl, .inr rfl⟩, trivial⟩ rfl ?_
  refine kz_aload_n (M := kt_M530) kX13_scan_c0.2.2.2.2.1 rfl ?_
  refine kz_gfi (M := kt_M530) (c := 12) (o := 0) kX13_scan_c0.2.2.2.2.2.1 wf_X13_462 (.inl rfl) ?_
  refine kz_sti_n (M := kt_M530) [(0, .ref (w_adr E.2.1 12 0)), (1, .int v2)] kX13_scan_c0.2.2.2.2.2.2.1 (Nat.le_of_ble_eq_true rfl) ⟨⟨rfl, rfl, .inl rfl⟩, ⟨⟨rfl, rfl, .inr rfl⟩, trivial⟩⟩ rfl ?_
  refine kz_iload_n (M := kt_M530) kX13_scan_c0.2.2.2.2.2.2.2.1 rfl ?_
  refine kz_cs1 (M := kt_M530) (As := [.int v2]) (rest := []) kX13_scan_c1.1 wl_X13_465 wMs_443 rfl (Nat.le_trans (Nat.le_of_ble_eq_true rfl) hL) (Nat.le_of_ble_eq_true rfl) (Nat.le_of_ble_eq_true rfl) h (fun v4 w3 hle h => ?_) (fun _ _ _ h => kzx_no rfl h)
  have h := h hle
  refine kz_if_eq (M := kt_M530) kX13_scan_c1.2.1 (t := 92) rfl h (fun h => ?_) (fun h => ?_)
  · skip
    refine kz_iload_n (M := kt_M530) kX13_scan_c6.2.2.2.2.2.1 rfl ?_
    refine kz_cs1 (M := kt_M530) (As := [.int v2]) (rest := []) kX13_scan_c6.2.2.2.2.2.2.1 wl_X13_469 wMs_441 rfl (Nat.le_trans (Nat.le_of_ble_eq_true rfl) hL) (Nat.le_of_ble_eq_true rfl) (Nat.le_of_ble_eq_true rfl) h (fun v6 w5 hle h => ?_) (fun _ _ _ h => kzx_no rfl h)
    have h := h hle
    refine kz_if_eq (M := kt_M530) kX13_scan_c6.2.2.2.2.2.2.2.1 (t := 104) rfl h (fun h => ?_) (fun h => ?_)
    · skip
      refine kz_iload_n (M := kt_M530) kX13_scan_c7.2.2.2.1 rfl ?_
      refine kz_bi (M := kt_M530) 35 kX13_scan_c7.2.2.2.2.1 rfl ?_
      refine kz_icmp_ne (M := kt_M530) kX13_scan_c7.2.2.2.2.2.1 (t := 115) rfl h (fun h => ?_) (fun h => ?_)
      · skip
        refine kz_iload_n (M := kt_M530) kX13_scan_c8.2.1 rfl ?_
        refine kz_bi (M := kt_M530) 39 kX13_scan_c8.2.2.1 rfl ?_
        refine kz_icmp_ne (M := kt_M530) kX13_scan_c8.2.2.2.1 (t := 164) rfl h (fun h => ?_) (fun h => ?_)
        · skip
          refine kz_iload_n (M := kt_M530) kX13_scan_c11.2.2.2.2.1 rfl ?_
          refine kz_bi (M := kt_M530) 34 kX13_scan_c11.2.2.2.2.2.1 rfl ?_
          refine kz_icmp_ne (M := kt_M530) kX13_scan_c11.2.2.2.2.2.2.1 (t := 175) rfl h (fun h => ?_) (fun h => ?_)
          · skip
            refine kz_bi (M := kt_M530) 76 kX13_scan_c12.2.2.1 rfl ?_
            refine kz_sti_n (M := kt_M530) [(0, .ref (w_adr E.2.1 12 0))] kX13_scan_c12.2.2.2.1 (Nat.le_of_ble_eq_true rfl) ⟨⟨rfl, rfl, .inl rfl⟩, trivial⟩ rfl ?_
            refine kz_ic (M := kt_M530) 0 kX13_scan_c12.2.2.2.2.1 rfl ?_
            refine kz_sti (M := kt_M530) [(0, .ref (w_adr E.2.1 12 0)), (3, .int 76)] kX13_scan_c12.2.2.2.2.2.1 (Nat.le_of_ble_eq_true rfl) ⟨⟨rfl, rfl, .inl rfl⟩, ⟨⟨rfl, rfl, .inr rfl⟩, trivial⟩⟩ rfl ?_
            exact kz_weak [(0, .ref (w_adr E.2.1 12 0)), (3, .int 76), (4, .int 0)] ⟨rfl, ⟨rfl, ⟨rfl, trivial⟩⟩⟩ rfl h
          · skip
            refine kz_aload_n (M := kt_M530) kX13_scan_c11.2.2.2.2.2.2.2.1 rfl ?_
            refine kz_cv1 (M := kt_M530) (c := 12) (o := 0) (As := []) (rest := []) kX13_scan_c12.1 wl_X13_516 wMv_548 rfl (.inl rfl) rfl (Nat.le_trans (Nat.le_of_ble_eq_true rfl) hL) (Nat.le_of_ble_eq_true rfl) (Nat.le_of_ble_eq_true rfl) h (fun v8 w7 hle h => ?_) (fun _ _ _ h => kzx_no rfl h)
            have h := h hle
            exact kz_iret (M := kt_M530) kX13_scan_c12.2.1 rfl rfl h
        · skip
          refine kz_aload_n (M := kt_M530) kX13_scan_c8.2.2.2.2.1 rfl ?_
          refine kz_dup (M := kt_M530) kX13_scan_c8.2.2.2.2.2.1 rfl ?_
          refine kz_gfi (M := kt_M530) (c := 12) (o := 0) kX13_scan_c8.2.2.2.2.2.2.1 wf_X13_462 (.inl rfl) ?_
          refine kz_ic (M := kt_M530) 1 kX13_scan_c8.2.2.2.2.2.2.2.1 rfl ?_
          refine kz_iadd (M := kt_M530) kX13_scan_c9.1 ?_
          refine kz_pfi (M := kt_M530) (c := 12) (o := 0) kX13_scan_c9.2.1 wq_X13_462 (.inl rfl) ?_
          refine kz_aload_n (M := kt_M530) kX13_scan_c9.2.2.1 rfl ?_
          refine kz_cv1 (M := kt_M530) (c := 12) (o := 0) (As := []) (rest := []) kX13_scan_c9.2.2.2.1 wl_X13_512 wMv_495 rfl (.inl rfl) rfl (Nat.le_trans (Nat.le_of_ble_eq_true rfl) hL) (Nat.le_of_ble_eq_true rfl) (Nat.le_of_ble_eq_true rfl) h (fun v10 w9 hle h => ?_) (fun _ _ _ h => kzx_no rfl h)
          have h := h hle
          refine kz_if_eq (M := kt_M530) kX13_scan_c9.2.2.2.2.1 (t := 148) rfl h (fun h => ?_) (fun h => ?_)
          · skip
            exact kz_weak [(0, .ref (w_adr E.2.1 12 0))] ⟨rfl, trivial⟩ rfl (zt_X13_scan_p148 hL  h)
          · skip
            refine kz_aload_n (M := kt_M530) kX13_scan_c9.2.2.2.2.2.1 rfl ?_
            refine kz_ic (M := kt_M530) 0 kX13_scan_c9.2.2.2.2.2.2.1 rfl ?_
            refine kz_cv1 (M := kt_M530) (c := 12) (o := 0) (As := [.int 0]) (rest := []) kX13_scan_c9.2.2.2.2.2.2.2.1 wl_X13_489 wMv_429 rfl (.inl rfl) rfl (Nat.le_trans (Nat.le_of_ble_eq_true rfl) hL) (Nat.le_of_ble_eq_true rfl) (Nat.le_of_ble_eq_true rfl) h (fun v12 w11 hle h => ?_) (fun _ _ _ h => kzx_no rfl h)
            have h := h hle
            refine kz_bi (M := kt_M530) 39 kX13_scan_c10.1 rfl ?_
            refine kz_icmp_eq (M := kt_M530) kX13_scan_c10.2.1 (t := 151) rfl h (fun h => ?_) (fun h => ?_)
            · skip
              refine kz_aload_n (M := kt_M530) kX13_scan_c10.2.2.2.2.1 rfl ?_
              refine kz_dup (M := kt_M530) kX13_scan_c10.2.2.2.2.2.1 rfl ?_
              refine kz_gfi (M := kt_M530) (c := 12) (o := 0) kX13_scan_c10.2.2.2.2.2.2.1 wf_X13_462 (.inl rfl) ?_
              refine kz_ic (M := kt_M530) 1 kX13_scan_c10.2.2.2.2.2.2.2.1 rfl ?_
              refine kz_iadd (M := kt_M530) kX13_scan_c11.1 ?_
              refine kz_pfi (M := kt_M530) (c := 12) (o := 0) kX13_scan_c11.2.1 wq_X13_462 (.inl rfl) ?_
              refine kz_bi (M := kt_M530) 72 kX13_scan_c11.2.2.1 rfl ?_
              exact kz_iret (M := kt_M530) kX13_scan_c11.2.2.2.1 rfl rfl h
            · skip
              exact kz_weak [(0, .ref (w_adr E.2.1 12 0))] ⟨rfl, trivial⟩ rfl (zt_X13_scan_p148 hL  h)
      · skip
        refine kz_aload_n (M := kt_M530) kX13_scan_c7.2.2.2.2.2.2.1 rfl ?_
        refine kz_cv1 (M := kt_M530) (c := 12) (o := 0) (As := []) (rest := []) kX13_scan_c7.2.2.2.2.2.2.2.1 wl_X13_509 wMv_537 rfl (.inl rfl) rfl (Nat.le_trans (Nat.le_of_ble_eq_true rfl) hL) (Nat.le_of_ble_eq_true rfl) (Nat.le_of_ble_eq_true rfl) h (fun v14 w13 hle h => ?_) (fun _ _ _ h => kzx_no rfl h)
        have h := h hle
        exact kz_iret (M := kt_M530) kX13_scan_c8.1 rfl rfl h
    · skip
      refine kz_aload_n (M := kt_M530) kX13_scan_c7.1 rfl ?_
      refine kz_cv1 (M := kt_M530) (c := 12) (o := 0) (As := []) (rest := []) kX13_scan_c7.2.1 wl_X13_506 wMv_382 rfl (.inl rfl) rfl (Nat.le_trans (Nat.le_of_ble_eq_true rfl) hL) (Nat.le_of_ble_eq_true rfl) (Nat.le_of_ble_eq_true rfl) h (fun v16 w15 hle h => ?_) (fun _ _ _ h => kzx_no rfl h)
      have h := h hle
      exact kz_iret (M := kt_M530) kX13_scan_c7.2.2.1 rfl rfl h
  · skip
    exact kz_weak [(0, .ref (w_adr E.2.1 12 0)), (2, .int (w_i w1 12 0 23))] ⟨rfl, ⟨rfl, trivial⟩⟩ rfl h
def zL_X13_wordOf_p34 (E : zE) (L : Nat) (Q : kx_Rs → wS → Prop) (x1 : Int32) (x2 : Int32) (x3 : Int32) (x4 : Int32) (x5 : Int32) (w : wS) : Prop := kzE E L kt_M604 34 [(0, .ref (w_adr E.2.1 12 0)), (1, .int x1), (2, .int x2), (3, .int x3), (4, .int x4), (5, .int x5)] [] w Q
def zL_X13_wordOf_p2 (E : zE) (L : Nat) (Q : kx_Rs → wS → Prop) (x1 : Int32) (x2 : Int32) (x3 : Int32) (w : wS) : Prop := kzE E L kt_M604 2 [(0, .ref (w_adr E.2.1 12 0)), (1, .int x1), (2, .int x2), (3, .int x3)] [] w Q
def zb_X13_wordOf_p81 (E : zE) (L : Nat) (Q : kx_Rs → wS → Prop) (x1 : Int32) (x2 : Int32) (x3 : Int32) (x4 : Int32) (w : wS) : Prop := (if x4 = 0 then zL_X13_wordOf_p2 E L Q x1 x2 (x3 + 1) w else Q (.inl (some (.int x3))) w)
theorem zt_X13_wordOf_p81 {E : zE} {L : Nat} {Q : kx_Rs → wS → Prop} {x1 : Int32} {x2 : Int32} {x3 : Int32} {x4 : Int32} {w : wS} (hL : 120 ≤ L) (h : zb_X13_wordOf_p81 E L Q x1 x2 x3 x4 w) : kzE E L kt_M604 81 [(0, .ref (w_adr E.2.1 12 0)), (1, .int x1), (2, .int x2), (3, .int x3), (4, .int x4)] [] w Q := by
  unfold zb_X13_wordOf_p81 at h
  refine kz_iload (M := kt_M604) kX13_wordOf_c5.2.2.2.2.1 rfl ?_
  refine kz_if_eq (M := kt_M604) kX13_wordOf_c5.2.2.2.2.2.1 (t := 88) rfl h (fun h => ?_) (fun h => ?_)
  · skip
    refine kz_inc (M := kt_M604) [(0, .ref (w_adr E.2.1 12 0)), (1, .int x1), (2, .int x2)] kX13_wordOf_c6.1 rfl (Nat.le_of_ble_eq_true rfl) ⟨⟨rfl, rfl, .inl rfl⟩, ⟨⟨rfl, rfl, .inl rfl⟩, ⟨⟨rfl, rfl, .inr rfl⟩, trivial⟩⟩⟩ rfl ?_
    refine kz_goto (M := kt_M604) kX13_wordOf_c6.2.1 (t := 2) rfl ?_
    exact kz_weak [(0, .ref (w_adr E.2.1 12 0)), (1, .int x1), (2, .int x2), (3, .int (x3 + 1))] ⟨rfl, ⟨rfl, ⟨rfl, ⟨rfl, trivial⟩⟩⟩⟩ rfl h
  · skip
    refine kz_iload_n (M := kt_M604) kX13_wordOf_c5.2.2.2.2.2.2.1 rfl ?_
    exact kz_iret (M := kt_M604) kX13_wordOf_c5.2.2.2.2.2.2.2.1 rfl rfl h
def zb_X13_wordOf_p73 (E : zE) (L : Nat) (Q : kx_Rs → wS → Prop) (x1 : Int32) (x2 : Int32) (x3 : Int32) (x5 : Int32) (y0 : Int32) (w : wS) : Prop := zL_X13_wordOf_p34 E L Q x1 x2 x3 y0 (x5 + 1) w
theorem zt_X13_wordOf_p73 {E : zE} {L : Nat} {Q : kx_Rs → wS → Prop} {x1 : Int32} {x2 : Int32} {x3 : Int32} {x5 : Int32} {y0 : Int32} {w : wS} (hL : 120 ≤ L) (h : zb_X13_wordOf_p73 E L Q x1 x2 x3 x5 y0 w) : kzE E L kt_M604 73 [(0, .ref (w_adr E.2.1 12 0)), (1, .int x1), (2, .int x2), (3, .int x3), (5, .int x5)] [.int y0] w Q := by
  unfold zb_X13_wordOf_p73 at h
  refine kz_sti (M := kt_M604) [(0, .ref (w_adr E.2.1 12 0)), (1, .int x1), (2, .int x2), (3, .int x3), (5, .int x5)] kX13_wordOf_c5.2.1 (Nat.le_of_ble_eq_true rfl) ⟨⟨rfl, rfl, .inl rfl⟩, ⟨⟨rfl, rfl, .inl rfl⟩, ⟨⟨rfl, rfl, .inl rfl⟩, ⟨⟨rfl, rfl, .inr rfl⟩, ⟨⟨rfl, rfl, .inl rfl⟩, trivial⟩⟩⟩⟩⟩ rfl ?_
  refine kz_inc (M := kt_M604) [(0, .ref (w_adr E.2.1 12 0)), (1, .int x1), (2, .int x2), (3, .int x3), (4, .int y0)] kX13_wordOf_c5.2.2.1 rfl (Nat.le_of_ble_eq_true rfl) ⟨⟨rfl, rfl, .inl rfl⟩, ⟨⟨rfl, rfl, .inl rfl⟩, ⟨⟨rfl, rfl, .inl rfl⟩, ⟨⟨rfl, rfl, .inl rfl⟩, ⟨⟨rfl, rfl, .inr rfl⟩, trivial⟩⟩⟩⟩⟩ rfl ?_
  refine kz_goto (M := kt_M604) kX13_wordOf_c5.2.2.2.1 (t := 34) rfl ?_
  exact kz_weak [(0, .ref (w_adr E.2.1 12 0)), (1, .int x1), (2, .int x2), (3, .int x3), (4, .int y0), (5, .int (x5 + 1))] ⟨rfl, ⟨rfl, ⟨rfl, ⟨rfl, ⟨rfl, ⟨rfl, trivial⟩⟩⟩⟩⟩⟩ rfl h
def zb_X13_wordOf_p34 (E : zE) (L : Nat) (Q : kx_Rs → wS → Prop) (x1 : Int32) (x2 : Int32) (x3 : Int32) (x4 : Int32) (x5 : Int32) (w : wS) : Prop := (if x2 ≤ x5 then zb_X13_wordOf_p81 E L Q x1 x2 x3 x4 w else (if x4 = 0 then zb_X13_wordOf_p81 E L Q x1 x2 x3 x4 w else (kx_inb x3 (w_n w 12 0 4) = true ∧ (∃ i1, zK E (w_r w 12 0 4 (x3).toNatClampNeg) i1 ∧ kx_inb x5 (kw_sl i1) = true ∧ (kx_inb (x1 + x5) (w_n w 12 0 2) = true ∧ (if ¬ (kw_sc i1 (x5).toNatClampNeg) = w_a w 12 0 2 ((x1 + x5)).toNatClampNeg then zb_X13_wordOf_p73 E L Q x1 x2 x3 x5 0 w else zb_X13_wordOf_p73 E L Q x1 x2 x3 x5 1 w))))))
theorem zt_X13_wordOf_p34 {E : zE} {L : Nat} {Q : kx_Rs → wS → Prop} {x1 : Int32} {x2 : Int32} {x3 : Int32} {x4 : Int32} {x5 : Int32} {w : wS} (hL : 120 ≤ L) (h : zb_X13_wordOf_p34 E L Q x1 x2 x3 x4 x5 w) : kzE E L kt_M604 34 [(0, .ref (w_adr E.2.1 12 0)), (1, .int x1), (2, .int x2), (3, .int x3), (4, .int x4), (5, .int x5)] [] w Q := by
  unfold zb_X13_wordOf_p34 at h
  refine kz_iload (M := kt_M604) kX13_wordOf_c2.2.2.2.2.1 rfl ?_
  refine kz_iload_n (M := kt_M604) kX13_wordOf_c2.2.2.2.2.2.1 rfl ?_
  refine kz_icmp_ge (M := kt_M604) kX13_wordOf_c2.2.2.2.2.2.2.1 (t := 81) rfl h (fun h => ?_) (fun h => ?_)
  · skip
    exact kz_weak [(0, .ref (w_adr E.2.1 12 0)), (1, .int x1), (2, .int x2), (3, .int x3), (4, .int x4)] ⟨rfl, ⟨rfl, ⟨rfl, ⟨rfl, ⟨rfl, trivial⟩⟩⟩⟩⟩ rfl (zt_X13_wordOf_p81 hL  h)
  · skip
    refine kz_iload (M := kt_M604) kX13_wordOf_c2.2.2.2.2.2.2.2.1 rfl ?_
    refine kz_if_eq (M := kt_M604) kX13_wordOf_c3.1 (t := 81) rfl h (fun h => ?_) (fun h => ?_)
    · skip
      exact kz_weak [(0, .ref (w_adr E.2.1 12 0)), (1, .int x1), (2, .int x2), (3, .int x3), (4, .int x4)] ⟨rfl, ⟨rfl, ⟨rfl, ⟨rfl, ⟨rfl, trivial⟩⟩⟩⟩⟩ rfl (zt_X13_wordOf_p81 hL  h)
    · skip
      refine kz_aload_n (M := kt_M604) kX13_wordOf_c3.2.1 rfl ?_
      refine kz_gfc (M := kt_M604) (x := 4076) (c := 12) (o := 0) kX13_wordOf_c3.2.2.1 wf_X13_94 (.inl rfl) ?_
      refine kz_iload_n (M := kt_M604) kX13_wordOf_c3.2.2.2.1 rfl ?_
      refine kz_aald (M := kt_M604) (τ := 5) (c := 12) (o := 0) (k := 4) (a := (E.2.1 4076)) kX13_wordOf_c3.2.2.2.2.1 ow_12_0_4 oa_12_0_4 ot_9 rfl h (fun h => ?_)
      refine kz_iload (M := kt_M604) kX13_wordOf_c3.2.2.2.2.2.1 rfl ?_
      obtain ⟨i1, ho, hb, h⟩ := h
      refine kz_sat (M := kt_M604) (x := w_r w 12 0 4 (x3).toNatClampNeg) (i := i1) kX13_wordOf_c3.2.2.2.2.2.2.1 wl_X13_485 (Nat.le_trans (Nat.le_of_ble_eq_true rfl) hL) (by simp [kx_cat, w_cat, z_ci, z_cr, z_cl, z_cn]) ho hb ?_
      refine kz_aload_n (M := kt_M604) kX13_wordOf_c3.2.2.2.2.2.2.2.1 rfl ?_
      refine kz_gfc (M := kt_M604) (x := 4074) (c := 12) (o := 0) kX13_wordOf_c4.1 wf_X13_16 (.inl rfl) ?_
      refine kz_iload_n (M := kt_M604) kX13_wordOf_c4.2.1 rfl ?_
      refine kz_iload (M := kt_M604) kX13_wordOf_c4.2.2.1 rfl ?_
      refine kz_iadd (M := kt_M604) kX13_wordOf_c4.2.2.2.1 ?_
      refine kz_iald (M := kt_M604) (c := 12) (o := 0) (k := 2) (a := (E.2.1 4074)) kX13_wordOf_c4.2.2.2.2.1 ow_12_0_2 oa_12_0_2 ot_0 h (fun h => ?_)
      refine kz_icmp_ne (M := kt_M604) kX13_wordOf_c4.2.2.2.2.2.1 (t := 72) rfl h (fun h => ?_) (fun h => ?_)
      · skip
        refine kz_ic (M := kt_M604) 0 kX13_wordOf_c5.1 rfl ?_
        exact kz_weak [(0, .ref (w_adr E.2.1 12 0)), (1, .int x1), (2, .int x2), (3, .int x3), (5, .int x5)] ⟨rfl, ⟨rfl, ⟨rfl, ⟨rfl, ⟨rfl, trivial⟩⟩⟩⟩⟩ rfl (zt_X13_wordOf_p73 hL  h)
      · skip
        refine kz_ic (M := kt_M604) 1 kX13_wordOf_c4.2.2.2.2.2.2.1 rfl ?_
        refine kz_goto (M := kt_M604) kX13_wordOf_c4.2.2.2.2.2.2.2.1 (t := 73) rfl ?_
        exact kz_weak [(0, .ref (w_adr E.2.1 12 0)), (1, .int x1), (2, .int x2), (3, .int x3), (5, .int x5)] ⟨rfl, ⟨rfl, ⟨rfl, ⟨rfl, ⟨rfl, trivial⟩⟩⟩⟩⟩ rfl (zt_X13_wordOf_p73 hL  h)
def zb_X13_wordOf_p29 (E : zE) (L : Nat) (Q : kx_Rs → wS → Prop) (x1 : Int32) (x2 : Int32) (x3 : Int32) (y0 : Int32) (w : wS) : Prop := zL_X13_wordOf_p34 E L Q x1 x2 x3 y0 0 w
theorem zt_X13_wordOf_p29 {E : zE} {L : Nat} {Q : kx_Rs → wS → Prop} {x1 : Int32} {x2 : Int32} {x3 : Int32} {y0 : Int32} {w : wS} (hL : 120 ≤ L) (h : zb_X13_wordOf_p29 E L Q x1 x2 x3 y0 w) : kzE E L kt_M604 29 [(0, .ref (w_adr E.2.1 12 0)), (1, .int x1), (2, .int x2), (3, .int x3)] [.int y0] w Q := by
  unfold zb_X13_wordOf_p29 at h
  refine kz_sti (M := kt_M604) [(0, .ref (w_adr E.2.1 12 0)), (1, .int x1), (2, .int x2), (3, .int x3)] kX13_wordOf_c2.2.1 (Nat.le_of_ble_eq_true rfl) ⟨⟨rfl, rfl, .inl rfl⟩, ⟨⟨rfl, rfl, .inl rfl⟩, ⟨⟨rfl, rfl, .inl rfl⟩, ⟨⟨rfl, rfl, .inr rfl⟩, trivial⟩⟩⟩⟩ rfl ?_
  refine kz_ic (M := kt_M604) 0 kX13_wordOf_c2.2.2.1 rfl ?_
  refine kz_sti (M := kt_M604) [(0, .ref (w_adr E.2.1 12 0)), (1, .int x1), (2, .int x2), (3, .int x3), (4, .int y0)] kX13_wordOf_c2.2.2.2.1 (Nat.le_of_ble_eq_true rfl) ⟨⟨rfl, rfl, .inl rfl⟩, ⟨⟨rfl, rfl, .inl rfl⟩, ⟨⟨rfl, rfl, .inl rfl⟩, ⟨⟨rfl, rfl, .inl rfl⟩, ⟨⟨rfl, rfl, .inr rfl⟩, trivial⟩⟩⟩⟩⟩ rfl ?_
  exact kz_weak [(0, .ref (w_adr E.2.1 12 0)), (1, .int x1), (2, .int x2), (3, .int x3), (4, .int y0), (5, .int 0)] ⟨rfl, ⟨rfl, ⟨rfl, ⟨rfl, ⟨rfl, ⟨rfl, trivial⟩⟩⟩⟩⟩⟩ rfl h
def zb_X13_wordOf_p2 (E : zE) (L : Nat) (Q : kx_Rs → wS → Prop) (x1 : Int32) (x2 : Int32) (x3 : Int32) (w : wS) : Prop := (if (Int32.ofNat (w_n w 12 0 4)) ≤ x3 then Q (.inl (some (.int (-1)))) w else (kx_inb x3 (w_n w 12 0 4) = true ∧ (∃ i1, zK E (w_r w 12 0 4 (x3).toNatClampNeg) i1 ∧ (if ¬ (Int32.ofNat (kw_sl i1)) = x2 then zb_X13_wordOf_p29 E L Q x1 x2 x3 0 w else zb_X13_wordOf_p29 E L Q x1 x2 x3 1 w))))
theorem zt_X13_wordOf_p2 {E : zE} {L : Nat} {Q : kx_Rs → wS → Prop} {x1 : Int32} {x2 : Int32} {x3 : Int32} {w : wS} (hL : 120 ≤ L) (h : zb_X13_wordOf_p2 E L Q x1 x2 x3 w) : kzE E L kt_M604 2 [(0, .ref (w_adr E.2.1 12 0)), (1, .int x1), (2, .int x2), (3, .int x3)] [] w Q := by
  unfold zb_X13_wordOf_p2 at h
  refine kz_iload_n (M := kt_M604) kX13_wordOf_c0.2.2.1 rfl ?_
  refine kz_aload_n (M := kt_M604) kX13_wordOf_c0.2.2.2.1 rfl ?_
  refine kz_gfc (M := kt_M604) (x := 4076) (c := 12) (o := 0) kX13_wordOf_c0.2.2.2.2.1 wf_X13_94 (.inl rfl) ?_
  refine kz_alen (M := kt_M604) (c := 12) (o := 0) (k := 4) (a := (E.2.1 4076)) (τ := 9) kX13_wordOf_c0.2.2.2.2.2.1 ow_12_0_4 oa_12_0_4 (Nat.le_of_ble_eq_true rfl) ?_
  refine kz_icmp_ge (M := kt_M604) kX13_wordOf_c0.2.2.2.2.2.2.1 (t := 94) rfl h (fun h => ?_) (fun h => ?_)
  · skip
    refine kz_ic (M := kt_M604) (-1) kX13_wordOf_c6.2.2.1 rfl ?_
    exact kz_iret (M := kt_M604) kX13_wordOf_c6.2.2.2.1 rfl rfl h
  · skip
    refine kz_aload_n (M := kt_M604) kX13_wordOf_c0.2.2.2.2.2.2.2.1 rfl ?_
    refine kz_gfc (M := kt_M604) (x := 4076) (c := 12) (o := 0) kX13_wordOf_c1.1 wf_X13_94 (.inl rfl) ?_
    refine kz_iload_n (M := kt_M604) kX13_wordOf_c1.2.1 rfl ?_
    refine kz_aald (M := kt_M604) (τ := 5) (c := 12) (o := 0) (k := 4) (a := (E.2.1 4076)) kX13_wordOf_c1.2.2.1 ow_12_0_4 oa_12_0_4 ot_9 rfl h (fun h => ?_)
    obtain ⟨i1, ho, h⟩ := h
    refine kz_slen (M := kt_M604) (x := w_r w 12 0 4 (x3).toNatClampNeg) (i := i1) kX13_wordOf_c1.2.2.2.1 wl_X13_481 (Nat.le_trans (Nat.le_of_ble_eq_true rfl) hL) (Nat.le_of_ble_eq_true rfl) ho ?_
    refine kz_iload_n (M := kt_M604) kX13_wordOf_c1.2.2.2.2.1 rfl ?_
    refine kz_icmp_ne (M := kt_M604) kX13_wordOf_c1.2.2.2.2.2.1 (t := 28) rfl h (fun h => ?_) (fun h => ?_)
    · skip
      refine kz_ic (M := kt_M604) 0 kX13_wordOf_c2.1 rfl ?_
      exact kz_weak [(0, .ref (w_adr E.2.1 12 0)), (1, .int x1), (2, .int x2), (3, .int x3)] ⟨rfl, ⟨rfl, ⟨rfl, ⟨rfl, trivial⟩⟩⟩⟩ rfl (zt_X13_wordOf_p29 hL  h)
    · skip
      refine kz_ic (M := kt_M604) 1 kX13_wordOf_c1.2.2.2.2.2.2.1 rfl ?_
      refine kz_goto (M := kt_M604) kX13_wordOf_c1.2.2.2.2.2.2.2.1 (t := 29) rfl ?_
      exact kz_weak [(0, .ref (w_adr E.2.1 12 0)), (1, .int x1), (2, .int x2), (3, .int x3)] ⟨rfl, ⟨rfl, ⟨rfl, ⟨rfl, trivial⟩⟩⟩⟩ rfl (zt_X13_wordOf_p29 hL  h)
def zb_X13_wordOf_p0 (E : zE) (L : Nat) (Q : kx_Rs → wS → Prop) (x1 : Int32) (x2 : Int32) (w : wS) : Prop := zL_X13_wordOf_p2 E L Q x1 x2 0 w
theorem zt_X13_wordOf_p0 {E : zE} {L : Nat} {Q : kx_Rs → wS → Prop} {x1 : Int32} {x2 : Int32} {w : wS} (hL : 120 ≤ L) (h : zb_X13_wordOf_p0 E L Q x1 x2 w) : kzE E L kt_M604 0 [(0, .ref (w_adr E.2.1 12 0)), (1, .int x1), (2, .int x2)] [] w Q := by
  unfold zb_X13_wordOf_p0 at h
  refine kz_ic (M := kt_M604) 0 kX13_wordOf_c0.1 rfl ?_
  refine kz_sti_n (M := kt_M604) [(0, .ref (w_adr E.2.1 12 0)), (1, .int x1), (2, .int x2)] kX13_wordOf_c0.2.1 (Nat.le_of_ble_eq_true rfl) ⟨⟨rfl, rfl, .inl rfl⟩, ⟨⟨rfl, rfl, .inl rfl⟩, ⟨⟨rfl, rfl, .inr rfl⟩, trivial⟩⟩⟩ rfl ?_
  exact kz_weak [(0, .ref (w_adr E.2.1 12 0)), (1, .int x1), (2, .int x2), (3, .int 0)] ⟨rfl, ⟨rfl, ⟨rfl, ⟨rfl, trivial⟩⟩⟩⟩ rfl h
def zb_X13_parses_p47 (E : zE) (L : Nat) (Q : kx_Rs → wS → Prop) (w : wS) : Prop := Q (.inl (some (.int 0))) w
theorem zt_X13_parses_p47 {E : zE} {L : Nat} {Q : kx_Rs → wS → Prop} {w : wS} (hL : 24 ≤ L) (h : zb_X13_parses_p47 E L Q  w) : kzE E L kt_M502 47 [(0, .ref (w_adr E.2.1 12 0))] [] w Q := by
  unfold zb_X13_parses_p47 at h
  refine kz_ic (M := kt_M502) 0 kX13_parses_c3.2.2.2.2.1 rfl ?_
  exact kz_iretz (M := kt_M502) kX13_parses_c3.2.2.2.2.2.1 rfl (by decide) h
def zb_X13_parses_p0 (E : zE) (L : Nat) (Q : kx_Rs → wS → Prop) (w : wS) : Prop := zw E (L - 24) kt_M514 [.ref (w_adr E.2.1 12 0), .int 0] (ws_i (ws_i (ws_i (ws_i w 12 0 25 0) 12 0 35 0) 12 0 38 0) 12 0 36 0) (wk1 (fun v2 w1 => wle (ws_i (ws_i (ws_i (ws_i w 12 0 25 0) 12 0 35 0) 12 0 38 0) 12 0 36 0) w1 → zw E (L - 20) kt_M462 [.ref (w_adr E.2.1 12 0)] (ws_i w1 12 0 43 v2) (wk1 (fun v4 w3 => wle (ws_i w1 12 0 43 v2) w3 → (if v4 = 75 then Q (.inl (some (.int 1))) w3 else zw E (L - 22) kt_M545 [.ref (w_adr E.2.1 12 0), .int 2] w3 (wkr (fun v6 w5 => wle w3 w5 → (v6 = some (w_adr E.2.1 13 0) ∧ zb_X13_parses_p47 E L Q w5)) (fun e w9 => e = "MeetingHouseModel$Halt" ∧ zb_X13_parses_p47 E L Q w9)))) (fun e w9 => e = "MeetingHouseModel$Halt" ∧ zb_X13_parses_p47 E L Q w9))) (fun e w9 => e = "MeetingHouseModel$Halt" ∧ zb_X13_parses_p47 E L Q w9))
theorem zt_X13_parses_p0 {E : zE} {L : Nat} {Q : kx_Rs → wS → Prop} {w : wS} (hL : 24 ≤ L) (h : zb_X13_parses_p0 E L Q  w) : kzE E L kt_M502 0 [(0, .ref (w_adr E.2.1 12 0))] [] w Q := by
  unfold zb_X13_parses_p0 at h
  refine kz_aload_n (M := kt_M502) kX13_parses_c0.1 rfl ?_
  refine kz_ic (M := kt_M502) 0 kX13_parses_c0.2.1 rfl ?_
  refine kz_pfi (M := kt_M502) (c := 12) (o := 0) kX13_parses_c0.2.2.1 wq_X13_544 (.inl rfl) ?_
  refine kz_aload_n (M := kt_M502) kX13_parses_c0.2.2.2.1 rfl ?_
  refine kz_ic (M := kt_M502) 0 kX13_parses_c0.2.2.2.2.1 rfl ?_
  refine kz_pfi (M := kt_M502) (c := 12) (o := 0) kX13_parses_c0.2.2.2.2.2.1 wq_X13_547 (.inl rfl) ?_
  refine kz_aload_n (M := kt_M502) kX13_parses_c0.2.2.2.2.2.2.1 rfl ?_
  refine kz_ic (M := kt_M502) 0 kX13_parses_c0.2.2.2.2.2.2.2.1 rfl ?_
  refine kz_pfi (M := kt_M502) (c := 12) (o := 0) kX13_parses_c1.1 wq_X13_669 (.inl rfl) ?_
  refine kz_aload_n (M := kt_M502) kX13_parses_c1.2.1 rfl ?_
  refine kz_ic (M := kt_M502) 0 kX13_parses_c1.2.2.1 rfl ?_
  refine kz_pfi (M := kt_M502) (c := 12) (o := 0) kX13_parses_c1.2.2.2.1 wq_X13_550 (.inl rfl) ?_
  refine kz_aload_n (M := kt_M502) kX13_parses_c1.2.2.2.2.1 rfl ?_
  refine kz_aload_n (M := kt_M502) kX13_parses_c1.2.2.2.2.2.1 rfl ?_
  refine kz_ic (M := kt_M502) 0 kX13_parses_c1.2.2.2.2.2.2.1 rfl ?_
  refine kz_cv1 (M := kt_M502) (c := 12) (o := 0) (As := [.int 0]) (rest := [.ref (w_adr E.2.1 12 0)]) kX13_parses_c1.2.2.2.2.2.2.2.1 wl_X13_604 wMv_514 rfl (.inl rfl) rfl (Nat.le_trans (Nat.le_of_ble_eq_true rfl) hL) (Nat.le_of_ble_eq_true rfl) (Nat.le_of_ble_eq_true rfl) h (fun v2 w1 hle h => ?_) (fun e w9 hle h => ?_)
  rotate_left
  · skip
    obtain ⟨he, h⟩ := h
    cases he
    refine kzx_n (M := kt_M502) [(0, .ref (w_adr E.2.1 12 0))] (zhx_X13_parses_23) kX13_parses_c3.2.2.2.1 (Nat.le_of_ble_eq_true rfl) ⟨⟨rfl, rfl, .inr rfl⟩, trivial⟩ rfl ?_
    exact kz_weak [(0, .ref (w_adr E.2.1 12 0))] ⟨rfl, trivial⟩ rfl (zt_X13_parses_p47 hL  h)
  have h := h hle
  refine kz_pfi (M := kt_M502) (c := 12) (o := 0) kX13_parses_c2.1 wq_X13_713 (.inl rfl) ?_
  refine kz_aload_n (M := kt_M502) kX13_parses_c2.2.1 rfl ?_
  refine kz_cv1 (M := kt_M502) (c := 12) (o := 0) (As := []) (rest := []) kX13_parses_c2.2.2.1 wl_X13_560 wMv_462 rfl (.inl rfl) rfl (Nat.le_trans (Nat.le_of_ble_eq_true rfl) hL) (Nat.le_of_ble_eq_true rfl) (Nat.le_of_ble_eq_true rfl) h (fun v4 w3 hle h => ?_) (fun e w9 hle h => ?_)
  rotate_left
  · skip
    obtain ⟨he, h⟩ := h
    cases he
    refine kzx_n (M := kt_M502) [(0, .ref (w_adr E.2.1 12 0))] (zhx_X13_parses_30) kX13_parses_c3.2.2.2.1 (Nat.le_of_ble_eq_true rfl) ⟨⟨rfl, rfl, .inr rfl⟩, trivial⟩ rfl ?_
    exact kz_weak [(0, .ref (w_adr E.2.1 12 0))] ⟨rfl, trivial⟩ rfl (zt_X13_parses_p47 hL  h)
  have h := h hle
  refine kz_bi (M := kt_M502) 75 kX13_parses_c2.2.2.2.1 rfl ?_
  refine kz_icmp_eq (M := kt_M502) kX13_parses_c2.2.2.2.2.1 (t := 44) rfl h (fun h => ?_) (fun h => ?_)
  · skip
    refine kz_ic (M := kt_M502) 1 kX13_parses_c3.2.1 rfl ?_
    exact kz_iretz (M := kt_M502) kX13_parses_c3.2.2.1 rfl (by decide) h
  · skip
    refine kz_aload_n (M := kt_M502) kX13_parses_c2.2.2.2.2.2.1 rfl ?_
    refine kz_ic (M := kt_M502) 2 kX13_parses_c2.2.2.2.2.2.2.1 rfl ?_
    refine kz_cvr (M := kt_M502) (c := 12) (o := 0) (As := [.int 2]) (rest := []) kX13_parses_c2.2.2.2.2.2.2.2.1 wl_X13_556 wMv_545 rfl (.inl rfl) rfl (Nat.le_trans (Nat.le_of_ble_eq_true rfl) hL) (Nat.le_of_ble_eq_true rfl) (Nat.le_of_ble_eq_true rfl) h (fun v6 w5 hle h => ?_) (fun e w9 hle h => ?_)
    rotate_left
    · skip
      obtain ⟨he, h⟩ := h
      cases he
      refine kzx_n (M := kt_M502) [(0, .ref (w_adr E.2.1 12 0))] (zhx_X13_parses_40) kX13_parses_c3.2.2.2.1 (Nat.le_of_ble_eq_true rfl) ⟨⟨rfl, rfl, .inr rfl⟩, trivial⟩ rfl ?_
      exact kz_weak [(0, .ref (w_adr E.2.1 12 0))] ⟨rfl, trivial⟩ rfl (zt_X13_parses_p47 hL  h)
    have h := h hle
    exact kz_throw (x := v6) (M := kt_M502) (c := 13) (o := 0) kX13_parses_c3.1 rfl (.inl rfl) h (fun h => by
      have he : ("MeetingHouseModel$Halt" : String) = "MeetingHouseModel$Halt" := rfl
      cases he
      refine kzx_n (M := kt_M502) [(0, .ref (w_adr E.2.1 12 0))] (zhx_X13_parses_43) kX13_parses_c3.2.2.2.1 (Nat.le_of_ble_eq_true rfl) ⟨⟨rfl, rfl, .inr rfl⟩, trivial⟩ rfl ?_
      exact kz_weak [(0, .ref (w_adr E.2.1 12 0))] ⟨rfl, trivial⟩ rfl (zt_X13_parses_p47 hL  h))
def zL_X13_wordName_p32 (E : zE) (L : Nat) (Q : kx_Rs → wS → Prop) (x1 : Option Nat) (x2 : Int32) (x3 : Int32) (x4 : Int32) (w : wS) : Prop := kzE E L kt_M603 32 [(0, .ref (w_adr E.2.1 12 0)), (1, va_rf (x1)), (2, .int x2), (3, .int x3), (4, .int x4)] [] w Q
def zL_X13_wordName_p2 (E : zE) (L : Nat) (Q : kx_Rs → wS → Prop) (x1 : Option Nat) (x2 : Int32) (w : wS) : Prop := kzE E L kt_M603 2 [(0, .ref (w_adr E.2.1 12 0)), (1, va_rf (x1)), (2, .int x2)] [] w Q
def zb_X13_wordName_p80 (E : zE) (L : Nat) (Q : kx_Rs → wS → Prop) (x1 : Option Nat) (x2 : Int32) (x3 : Int32) (w : wS) : Prop := (if x3 = 0 then zL_X13_wordName_p2 E L Q x1 (x2 + 1) w else Q (.inl (some (.int x2))) w)
theorem zt_X13_wordName_p80 {E : zE} {L : Nat} {Q : kx_Rs → wS → Prop} {x1 : Option Nat} {x2 : Int32} {x3 : Int32} {w : wS} (hL : 120 ≤ L) (h : zb_X13_wordName_p80 E L Q x1 x2 x3 w) : kzE E L kt_M603 80 [(0, .ref (w_adr E.2.1 12 0)), (1, va_rf (x1)), (2, .int x2), (3, .int x3)] [] w Q := by
  unfold zb_X13_wordName_p80 at h
  refine kz_iload_n (M := kt_M603) kX13_wordName_c5.2.2.2.2.1 rfl ?_
  refine kz_if_eq (M := kt_M603) kX13_wordName_c5.2.2.2.2.2.1 (t := 86) rfl h (fun h => ?_) (fun h => ?_)
  · skip
    refine kz_inc (M := kt_M603) [(0, .ref (w_adr E.2.1 12 0)), (1, va_rf (x1))] kX13_wordName_c6.1 rfl (Nat.le_of_ble_eq_true rfl) ⟨⟨rfl, rfl, .inl rfl⟩, ⟨⟨rfl, rfl, .inr (w_cat (x1))⟩, trivial⟩⟩ rfl ?_
    refine kz_goto (M := kt_M603) kX13_wordName_c6.2.1 (t := 2) rfl ?_
    exact kz_weak [(0, .ref (w_adr E.2.1 12 0)), (1, va_rf (x1)), (2, .int (x2 + 1))] ⟨rfl, ⟨rfl, ⟨rfl, trivial⟩⟩⟩ rfl h
  · skip
    refine kz_iload_n (M := kt_M603) kX13_wordName_c5.2.2.2.2.2.2.1 rfl ?_
    exact kz_iret (M := kt_M603) kX13_wordName_c5.2.2.2.2.2.2.2.1 rfl rfl h
def zb_X13_wordName_p73 (E : zE) (L : Nat) (Q : kx_Rs → wS → Prop) (x1 : Option Nat) (x2 : Int32) (x4 : Int32) (y0 : Int32) (w : wS) : Prop := zL_X13_wordName_p32 E L Q x1 x2 y0 (x4 + 1) w
theorem zt_X13_wordName_p73 {E : zE} {L : Nat} {Q : kx_Rs → wS → Prop} {x1 : Option Nat} {x2 : Int32} {x4 : Int32} {y0 : Int32} {w : wS} (hL : 120 ≤ L) (h : zb_X13_wordName_p73 E L Q x1 x2 x4 y0 w) : kzE E L kt_M603 73 [(0, .ref (w_adr E.2.1 12 0)), (1, va_rf (x1)), (2, .int x2), (4, .int x4)] [.int y0] w Q := by
  unfold zb_X13_wordName_p73 at h
  refine kz_sti_n (M := kt_M603) [(0, .ref (w_adr E.2.1 12 0)), (1, va_rf (x1)), (2, .int x2), (4, .int x4)] kX13_wordName_c5.2.1 (Nat.le_of_ble_eq_true rfl) ⟨⟨rfl, rfl, .inl rfl⟩, ⟨⟨rfl, rfl, .inl rfl⟩, ⟨⟨rfl, rfl, .inr rfl⟩, ⟨⟨rfl, rfl, .inl rfl⟩, trivial⟩⟩⟩⟩ rfl ?_
  refine kz_inc (M := kt_M603) [(0, .ref (w_adr E.2.1 12 0)), (1, va_rf (x1)), (2, .int x2), (3, .int y0)] kX13_wordName_c5.2.2.1 rfl (Nat.le_of_ble_eq_true rfl) ⟨⟨rfl, rfl, .inl rfl⟩, ⟨⟨rfl, rfl, .inl rfl⟩, ⟨⟨rfl, rfl, .inl rfl⟩, ⟨⟨rfl, rfl, .inr rfl⟩, trivial⟩⟩⟩⟩ rfl ?_
  refine kz_goto (M := kt_M603) kX13_wordName_c5.2.2.2.1 (t := 32) rfl ?_
  exact kz_weak [(0, .ref (w_adr E.2.1 12 0)), (1, va_rf (x1)), (2, .int x2), (3, .int y0), (4, .int (x4 + 1))] ⟨rfl, ⟨rfl, ⟨rfl, ⟨rfl, ⟨rfl, trivial⟩⟩⟩⟩⟩ rfl h
def zb_X13_wordName_p32 (E : zE) (L : Nat) (Q : kx_Rs → wS → Prop) (x1 : Option Nat) (x2 : Int32) (x3 : Int32) (x4 : Int32) (w : wS) : Prop := (∃ i1, zK E x1 i1 ∧ (if (Int32.ofNat (kw_sl i1)) ≤ x4 then zb_X13_wordName_p80 E L Q x1 x2 x3 w else (if x3 = 0 then zb_X13_wordName_p80 E L Q x1 x2 x3 w else (kx_inb x2 (w_n w 12 0 14) = true ∧ (kx_inb ((w_a w 12 0 14 (x2).toNatClampNeg) + x4) (w_n w 12 0 16) = true ∧ (∃ i2, zK E x1 i2 ∧ kx_inb x4 (kw_sl i2) = true ∧ (if ¬ w_a w 12 0 16 (((w_a w 12 0 14 (x2).toNatClampNeg) + x4)).toNatClampNeg = (kw_sc i2 (x4).toNatClampNeg) then zb_X13_wordName_p73 E L Q x1 x2 x4 0 w else zb_X13_wordName_p73 E L Q x1 x2 x4 1 w)))))))
theorem zt_X13_wordName_p32 {E : zE} {L : Nat} {Q : kx_Rs → wS → Prop} {x1 : Option Nat} {x2 : Int32} {x3 : Int32} {x4 : Int32} {w : wS} (hL : 120 ≤ L) (h : zb_X13_wordName_p32 E L Q x1 x2 x3 x4 w) : kzE E L kt_M603 32 [(0, .ref (w_adr E.2.1 12 0)), (1, va_rf (x1)), (2, .int x2), (3, .int x3), (4, .int x4)] [] w Q := by
  unfold zb_X13_wordName_p32 at h
  refine kz_iload (M := kt_M603) kX13_wordName_c2.2.2.2.1 rfl ?_
  refine kz_aload_nv (M := kt_M603) (x := x1) kX13_wordName_c2.2.2.2.2.1 rfl ?_
  obtain ⟨i1, ho, h⟩ := h
  refine kz_slen (M := kt_M603) (x := x1) (i := i1) kX13_wordName_c2.2.2.2.2.2.1 wl_X13_481 (Nat.le_trans (Nat.le_of_ble_eq_true rfl) hL) (Nat.le_of_ble_eq_true rfl) ho ?_
  refine kz_icmp_ge (M := kt_M603) kX13_wordName_c2.2.2.2.2.2.2.1 (t := 80) rfl h (fun h => ?_) (fun h => ?_)
  · skip
    exact kz_weak [(0, .ref (w_adr E.2.1 12 0)), (1, va_rf (x1)), (2, .int x2), (3, .int x3)] ⟨rfl, ⟨rfl, ⟨rfl, ⟨rfl, trivial⟩⟩⟩⟩ rfl (zt_X13_wordName_p80 hL  h)
  · skip
    refine kz_iload_n (M := kt_M603) kX13_wordName_c2.2.2.2.2.2.2.2.1 rfl ?_
    refine kz_if_eq (M := kt_M603) kX13_wordName_c3.1 (t := 80) rfl h (fun h => ?_) (fun h => ?_)
    · skip
      exact kz_weak [(0, .ref (w_adr E.2.1 12 0)), (1, va_rf (x1)), (2, .int x2), (3, .int x3)] ⟨rfl, ⟨rfl, ⟨rfl, ⟨rfl, trivial⟩⟩⟩⟩ rfl (zt_X13_wordName_p80 hL  h)
    · skip
      refine kz_aload_n (M := kt_M603) kX13_wordName_c3.2.1 rfl ?_
      refine kz_gfc (M := kt_M603) (x := 4088) (c := 12) (o := 0) kX13_wordName_c3.2.2.1 wf_X13_175 (.inl rfl) ?_
      refine kz_aload_n (M := kt_M603) kX13_wordName_c3.2.2.2.1 rfl ?_
      refine kz_gfc (M := kt_M603) (x := 4086) (c := 12) (o := 0) kX13_wordName_c3.2.2.2.2.1 wf_X13_169 (.inl rfl) ?_
      refine kz_iload_n (M := kt_M603) kX13_wordName_c3.2.2.2.2.2.1 rfl ?_
      refine kz_iald (M := kt_M603) (c := 12) (o := 0) (k := 14) (a := (E.2.1 4086)) kX13_wordName_c3.2.2.2.2.2.2.1 ow_12_0_14 oa_12_0_14 ot_0 h (fun h => ?_)
      refine kz_iload (M := kt_M603) kX13_wordName_c3.2.2.2.2.2.2.2.1 rfl ?_
      refine kz_iadd (M := kt_M603) kX13_wordName_c4.1 ?_
      refine kz_iald (M := kt_M603) (c := 12) (o := 0) (k := 16) (a := (E.2.1 4088)) kX13_wordName_c4.2.1 ow_12_0_16 oa_12_0_16 ot_0 h (fun h => ?_)
      refine kz_aload_nv (M := kt_M603) (x := x1) kX13_wordName_c4.2.2.1 rfl ?_
      refine kz_iload (M := kt_M603) kX13_wordName_c4.2.2.2.1 rfl ?_
      obtain ⟨i2, ho, hb, h⟩ := h
      refine kz_sat (M := kt_M603) (x := x1) (i := i2) kX13_wordName_c4.2.2.2.2.1 wl_X13_485 (Nat.le_trans (Nat.le_of_ble_eq_true rfl) hL) (by simp [kx_cat, w_cat, z_ci, z_cr, z_cl, z_cn]) ho hb ?_
      refine kz_icmp_ne (M := kt_M603) kX13_wordName_c4.2.2.2.2.2.1 (t := 72) rfl h (fun h => ?_) (fun h => ?_)
      · skip
        refine kz_ic (M := kt_M603) 0 kX13_wordName_c5.1 rfl ?_
        exact kz_weak [(0, .ref (w_adr E.2.1 12 0)), (1, va_rf (x1)), (2, .int x2), (4, .int x4)] ⟨rfl, ⟨rfl, ⟨rfl, ⟨rfl, trivial⟩⟩⟩⟩ rfl (zt_X13_wordName_p73 hL  h)
      · skip
        refine kz_ic (M := kt_M603) 1 kX13_wordName_c4.2.2.2.2.2.2.1 rfl ?_
        refine kz_goto (M := kt_M603) kX13_wordName_c4.2.2.2.2.2.2.2.1 (t := 73) rfl ?_
        exact kz_weak [(0, .ref (w_adr E.2.1 12 0)), (1, va_rf (x1)), (2, .int x2), (4, .int x4)] ⟨rfl, ⟨rfl, ⟨rfl, ⟨rfl, trivial⟩⟩⟩⟩ rfl (zt_X13_wordName_p73 hL  h)
def zb_X13_wordName_p28 (E : zE) (L : Nat) (Q : kx_Rs → wS → Prop) (x1 : Option Nat) (x2 : Int32) (y0 : Int32) (w : wS) : Prop := zL_X13_wordName_p32 E L Q x1 x2 y0 0 w
theorem zt_X13_wordName_p28 {E : zE} {L : Nat} {Q : kx_Rs → wS → Prop} {x1 : Option Nat} {x2 : Int32} {y0 : Int32} {w : wS} (hL : 120 ≤ L) (h : zb_X13_wordName_p28 E L Q x1 x2 y0 w) : kzE E L kt_M603 28 [(0, .ref (w_adr E.2.1 12 0)), (1, va_rf (x1)), (2, .int x2)] [.int y0] w Q := by
  unfold zb_X13_wordName_p28 at h
  refine kz_sti_n (M := kt_M603) [(0, .ref (w_adr E.2.1 12 0)), (1, va_rf (x1)), (2, .int x2)] kX13_wordName_c2.1 (Nat.le_of_ble_eq_true rfl) ⟨⟨rfl, rfl, .inl rfl⟩, ⟨⟨rfl, rfl, .inl rfl⟩, ⟨⟨rfl, rfl, .inr rfl⟩, trivial⟩⟩⟩ rfl ?_
  refine kz_ic (M := kt_M603) 0 kX13_wordName_c2.2.1 rfl ?_
  refine kz_sti (M := kt_M603) [(0, .ref (w_adr E.2.1 12 0)), (1, va_rf (x1)), (2, .int x2), (3, .int y0)] kX13_wordName_c2.2.2.1 (Nat.le_of_ble_eq_true rfl) ⟨⟨rfl, rfl, .inl rfl⟩, ⟨⟨rfl, rfl, .inl rfl⟩, ⟨⟨rfl, rfl, .inl rfl⟩, ⟨⟨rfl, rfl, .inr rfl⟩, trivial⟩⟩⟩⟩ rfl ?_
  exact kz_weak [(0, .ref (w_adr E.2.1 12 0)), (1, va_rf (x1)), (2, .int x2), (3, .int y0), (4, .int 0)] ⟨rfl, ⟨rfl, ⟨rfl, ⟨rfl, ⟨rfl, trivial⟩⟩⟩⟩⟩ rfl h
def zb_X13_wordName_p2 (E : zE) (L : Nat) (Q : kx_Rs → wS → Prop) (x1 : Option Nat) (x2 : Int32) (w : wS) : Prop := (if w_i w 12 0 13 ≤ x2 then Q (.inl (some (.int (-9)))) w else (kx_inb x2 (w_n w 12 0 15) = true ∧ (∃ i1, zK E x1 i1 ∧ (if ¬ w_a w 12 0 15 (x2).toNatClampNeg = (Int32.ofNat (kw_sl i1)) then zb_X13_wordName_p28 E L Q x1 x2 0 w else zb_X13_wordName_p28 E L Q x1 x2 1 w))))
theorem zt_X13_wordName_p2 {E : zE} {L : Nat} {Q : kx_Rs → wS → Prop} {x1 : Option Nat} {x2 : Int32} {w : wS} (hL : 120 ≤ L) (h : zb_X13_wordName_p2 E L Q x1 x2 w) : kzE E L kt_M603 2 [(0, .ref (w_adr E.2.1 12 0)), (1, va_rf (x1)), (2, .int x2)] [] w Q := by
  unfold zb_X13_wordName_p2 at h
  refine kz_iload_n (M := kt_M603) kX13_wordName_c0.2.2.1 rfl ?_
  refine kz_aload_n (M := kt_M603) kX13_wordName_c0.2.2.2.1 rfl ?_
  refine kz_gfi (M := kt_M603) (c := 12) (o := 0) kX13_wordName_c0.2.2.2.2.1 wf_X13_475 (.inl rfl) ?_
  refine kz_icmp_ge (M := kt_M603) kX13_wordName_c0.2.2.2.2.2.1 (t := 92) rfl h (fun h => ?_) (fun h => ?_)
  · skip
    refine kz_bi (M := kt_M603) (-9) kX13_wordName_c6.2.2.1 rfl ?_
    exact kz_iret (M := kt_M603) kX13_wordName_c6.2.2.2.1 rfl rfl h
  · skip
    refine kz_aload_n (M := kt_M603) kX13_wordName_c0.2.2.2.2.2.2.1 rfl ?_
    refine kz_gfc (M := kt_M603) (x := 4087) (c := 12) (o := 0) kX13_wordName_c0.2.2.2.2.2.2.2.1 wf_X13_172 (.inl rfl) ?_
    refine kz_iload_n (M := kt_M603) kX13_wordName_c1.1 rfl ?_
    refine kz_iald (M := kt_M603) (c := 12) (o := 0) (k := 15) (a := (E.2.1 4087)) kX13_wordName_c1.2.1 ow_12_0_15 oa_12_0_15 ot_0 h (fun h => ?_)
    refine kz_aload_nv (M := kt_M603) (x := x1) kX13_wordName_c1.2.2.1 rfl ?_
    obtain ⟨i1, ho, h⟩ := h
    refine kz_slen (M := kt_M603) (x := x1) (i := i1) kX13_wordName_c1.2.2.2.1 wl_X13_481 (Nat.le_trans (Nat.le_of_ble_eq_true rfl) hL) (Nat.le_of_ble_eq_true rfl) ho ?_
    refine kz_icmp_ne (M := kt_M603) kX13_wordName_c1.2.2.2.2.1 (t := 27) rfl h (fun h => ?_) (fun h => ?_)
    · skip
      refine kz_ic (M := kt_M603) 0 kX13_wordName_c1.2.2.2.2.2.2.2.1 rfl ?_
      exact kz_weak [(0, .ref (w_adr E.2.1 12 0)), (1, va_rf (x1)), (2, .int x2)] ⟨rfl, ⟨rfl, ⟨rfl, trivial⟩⟩⟩ rfl (zt_X13_wordName_p28 hL  h)
    · skip
      refine kz_ic (M := kt_M603) 1 kX13_wordName_c1.2.2.2.2.2.1 rfl ?_
      refine kz_goto (M := kt_M603) kX13_wordName_c1.2.2.2.2.2.2.1 (t := 28) rfl ?_
      exact kz_weak [(0, .ref (w_adr E.2.1 12 0)), (1, va_rf (x1)), (2, .int x2)] ⟨rfl, ⟨rfl, ⟨rfl, trivial⟩⟩⟩ rfl (zt_X13_wordName_p28 hL  h)
def zb_X13_wordName_p0 (E : zE) (L : Nat) (Q : kx_Rs → wS → Prop) (x1 : Option Nat) (w : wS) : Prop := zL_X13_wordName_p2 E L Q x1 0 w
theorem zt_X13_wordName_p0 {E : zE} {L : Nat} {Q : kx_Rs → wS → Prop} {x1 : Option Nat} {w : wS} (hL : 120 ≤ L) (h : zb_X13_wordName_p0 E L Q x1 w) : kzE E L kt_M603 0 [(0, .ref (w_adr E.2.1 12 0)), (1, va_rf (x1))] [] w Q := by
  unfold zb_X13_wordName_p0 at h
  refine kz_ic (M := kt_M603) 0 kX13_wordName_c0.1 rfl ?_
  refine kz_sti_n (M := kt_M603) [(0, .ref (w_adr E.2.1 12 0)), (1, va_rf (x1))] kX13_wordName_c0.2.1 (Nat.le_of_ble_eq_true rfl) ⟨⟨rfl, rfl, .inl rfl⟩, ⟨⟨rfl, rfl, .inr (w_cat (x1))⟩, trivial⟩⟩ rfl ?_
  exact kz_weak [(0, .ref (w_adr E.2.1 12 0)), (1, va_rf (x1)), (2, .int 0)] ⟨rfl, ⟨rfl, ⟨rfl, trivial⟩⟩⟩ rfl h
def zb_X13_proceed_p0 (E : zE) (L : Nat) (Q : kx_Rs → wS → Prop) (w : wS) : Prop := zw E (L - 22) kt_M420 [.ref (w_adr E.2.1 12 0)] w (wk0 (fun w1 => wle w w1 → (if w_i w1 12 0 163 < 0 then zw E (L - 23) kt_M401 [.ref (w_adr E.2.1 12 0)] w1 (wk0 (fun w5 => wle w1 w5 → Q (.inl none) w5) (fun e w => Q (.inr e) w)) else zw E (L - 20) kt_M529 [.ref (w_adr E.2.1 12 0)] w1 (wk0 (fun w7 => wle w1 w7 → Q (.inl none) w7) (fun e w => Q (.inr e) w)))) (fun e w9 => e = "MeetingHouseModel$Halt" ∧ zw E (L - 20) kt_M546 [.ref (w_adr E.2.1 12 0)] w9 (wk0 (fun w3 => wle w9 w3 → Q (.inl none) w3) (fun e w => Q (.inr e) w))))
theorem zt_X13_proceed_p0 {E : zE} {L : Nat} {Q : kx_Rs → wS → Prop} {w : wS} (hL : 23 ≤ L) (h : zb_X13_proceed_p0 E L Q  w) : kzE E L kt_M513 0 [(0, .ref (w_adr E.2.1 12 0))] [] w Q := by
  unfold zb_X13_proceed_p0 at h
  refine kz_aload_n (M := kt_M513) kX13_proceed_c0.1 rfl ?_
  refine kz_cv0 (M := kt_M513) (c := 12) (o := 0) (As := []) (rest := []) kX13_proceed_c0.2.1 wl_X13_1281 wMv_420 rfl (.inl rfl) rfl (Nat.le_trans (Nat.le_of_ble_eq_true rfl) hL) (Nat.le_of_ble_eq_true rfl) (Nat.le_of_ble_eq_true rfl) h (fun w1 hle h => ?_) (fun e w9 hle h => ?_)
  rotate_left
  · skip
    obtain ⟨he, h⟩ := h
    cases he
    refine kzx_n (M := kt_M513) [(0, .ref (w_adr E.2.1 12 0))] (zhx_X13_proceed_1) kX13_proceed_c0.2.2.2.1 (Nat.le_of_ble_eq_true rfl) ⟨⟨rfl, rfl, .inr rfl⟩, trivial⟩ rfl ?_
    refine kz_aload_n (M := kt_M513) kX13_proceed_c0.2.2.2.2.1 rfl ?_
    refine kz_cv0 (M := kt_M513) (c := 12) (o := 0) (As := []) (rest := []) kX13_proceed_c0.2.2.2.2.2.1 wl_X13_1316 wMv_546 rfl (.inl rfl) rfl (Nat.le_trans (Nat.le_of_ble_eq_true rfl) hL) (Nat.le_of_ble_eq_true rfl) (Nat.le_of_ble_eq_true rfl) h (fun w3 hle h => ?_) (fun _ _ _ h => kzx_out (zho_X13_proceed_9 _) h)
    have h := h hle
    exact kz_ret (M := kt_M513) kX13_proceed_c0.2.2.2.2.2.2.1 rfl h
  have h := h hle
  refine kz_goto (M := kt_M513) kX13_proceed_c0.2.2.1 (t := 13) rfl ?_
  refine kz_aload_n (M := kt_M513) kX13_proceed_c0.2.2.2.2.2.2.2.1 rfl ?_
  refine kz_gfi (M := kt_M513) (c := 12) (o := 0) kX13_proceed_c1.1 wf_X13_1165 (.inl rfl) ?_
  refine kz_if_lt (M := kt_M513) kX13_proceed_c1.2.1 (t := 25) rfl h (fun h => ?_) (fun h => ?_)
  · skip
    refine kz_aload_n (M := kt_M513) kX13_proceed_c1.2.2.2.2.2.1 rfl ?_
    refine kz_cv0 (M := kt_M513) (c := 12) (o := 0) (As := []) (rest := []) kX13_proceed_c1.2.2.2.2.2.2.1 wl_X13_1322 wMv_401 rfl (.inl rfl) rfl (Nat.le_trans (Nat.le_of_ble_eq_true rfl) hL) (Nat.le_of_ble_eq_true rfl) (Nat.le_of_ble_eq_true rfl) h (fun w5 hle h => ?_) (fun _ _ _ h => kzx_out (zho_X13_proceed_26 _) h)
    have h := h hle
    exact kz_ret (M := kt_M513) kX13_proceed_c1.2.2.2.2.2.2.2.1 rfl h
  · skip
    refine kz_aload_n (M := kt_M513) kX13_proceed_c1.2.2.1 rfl ?_
    refine kz_cv0 (M := kt_M513) (c := 12) (o := 0) (As := []) (rest := []) kX13_proceed_c1.2.2.2.1 wl_X13_1319 wMv_529 rfl (.inl rfl) rfl (Nat.le_trans (Nat.le_of_ble_eq_true rfl) hL) (Nat.le_of_ble_eq_true rfl) (Nat.le_of_ble_eq_true rfl) h (fun w7 hle h => ?_) (fun _ _ _ h => kzx_out (zho_X13_proceed_21 _) h)
    have h := h hle
    exact kz_ret (M := kt_M513) kX13_proceed_c1.2.2.2.2.1 rfl h
def zL_X13_receive_p108 (E : zE) (L : Nat) (Q : kx_Rs → wS → Prop) (x2 : Int32) (x4 : Int32) (x5 : Int32) (x6 : Int32) (x7 : Int32) (x8 : Int32) (x9 : Int32) (x10 : Int32) (x11 : Int32) (w : wS) : Prop := kzE E L kt_M522 108 [(0, .ref (w_adr E.2.1 12 0)), (2, .int x2), (4, .int x4), (5, .int x5), (6, .int x6), (7, .int x7), (8, .int x8), (9, .int x9), (10, .int x10), (11, .int x11)] [] w Q
def zL_X13_receive_p53 (E : zE) (L : Nat) (Q : kx_Rs → wS → Prop) (x2 : Int32) (x4 : Int32) (x5 : Int32) (x6 : Int32) (x7 : Int32) (x8 : Int32) (w : wS) : Prop := kzE E L kt_M522 53 [(0, .ref (w_adr E.2.1 12 0)), (2, .int x2), (4, .int x4), (5, .int x5), (6, .int x6), (7, .int x7), (8, .int x8)] [] w Q
def zb_X13_receive_p230 (E : zE) (L : Nat) (Q : kx_Rs → wS → Prop) (x2 : Int32) (x4 : Int32) (x5 : Int32) (x6 : Int32) (w : wS) : Prop := zw E (L - 26) kt_M456 [.ref (w_adr E.2.1 12 0), .int x4, .int x5] w (wk0 (fun w1 => wle w w1 → (kx_inb x2 (w_n w1 12 0 158) = true ∧ ((x6 = 0 ∨ x6 = 1) ∧ Q (.inl (some (.int x6))) (ws_a w1 12 0 158 (x2).toNatClampNeg 0)))) (fun e w => Q (.inr e) w))
theorem zt_X13_receive_p230 {E : zE} {L : Nat} {Q : kx_Rs → wS → Prop} {x2 : Int32} {x4 : Int32} {x5 : Int32} {x6 : Int32} {w : wS} (hL : 28 ≤ L) (h : zb_X13_receive_p230 E L Q x2 x4 x5 x6 w) : kzE E L kt_M522 230 [(0, .ref (w_adr E.2.1 12 0)), (2, .int x2), (4, .int x4), (5, .int x5), (6, .int x6)] [] w Q := by
  unfold zb_X13_receive_p230 at h
  refine kz_aload_n (M := kt_M522) kX13_receive_c16.1 rfl ?_
  refine kz_iload (M := kt_M522) kX13_receive_c16.2.1 rfl ?_
  refine kz_iload (M := kt_M522) kX13_receive_c16.2.2.1 rfl ?_
  refine kz_cv0 (M := kt_M522) (c := 12) (o := 0) (As := [.int x4, .int x5]) (rest := []) kX13_receive_c16.2.2.2.1 wl_X13_1180 wMv_456 rfl (.inl rfl) rfl (Nat.le_trans (Nat.le_of_ble_eq_true rfl) hL) (Nat.le_of_ble_eq_true rfl) (Nat.le_of_ble_eq_true rfl) h (fun w1 hle h => ?_) (fun _ _ _ h => kzx_out (zho_X13_receive_235 _) h)
  have h := h hle
  refine kz_aload_n (M := kt_M522) kX13_receive_c16.2.2.2.2.1 rfl ?_
  refine kz_gfc (M := kt_M522) (x := 4230) (c := 12) (o := 0) kX13_receive_c16.2.2.2.2.2.1 wf_X13_427 (.inl rfl) ?_
  refine kz_iload_n (M := kt_M522) kX13_receive_c16.2.2.2.2.2.2.1 rfl ?_
  refine kz_ic (M := kt_M522) 0 kX13_receive_c16.2.2.2.2.2.2.2.1 rfl ?_
  refine kz_iast (M := kt_M522) (c := 12) (o := 0) (k := 158) (a := (E.2.1 4230)) kX13_receive_c17.1 ow_12_0_158 oa_12_0_158 ot_0 h (fun h => ?_)
  refine kz_iload (M := kt_M522) kX13_receive_c17.2.1 rfl ?_
  exact kz_iretz (M := kt_M522) kX13_receive_c17.2.2.1 rfl h.1 h.2
def zb_X13_receive_p108 (E : zE) (L : Nat) (Q : kx_Rs → wS → Prop) (x2 : Int32) (x4 : Int32) (x5 : Int32) (x6 : Int32) (x7 : Int32) (x8 : Int32) (x9 : Int32) (x10 : Int32) (x11 : Int32) (w : wS) : Prop := (if x10 ≤ x11 then zL_X13_receive_p53 E L Q x2 x4 x5 x6 (x7 + x10) (x8 + 2) w else zw E (L - 21) kt_M410 [.ref (w_adr E.2.1 12 0), .int (x7 + x11)] w (wk1 (fun v2 w1 => wle w w1 → zw E (L - 22) kt_M369 [.ref (w_adr E.2.1 12 0), .int (x9 + x11), .int v2] w1 (wk0 (fun w3 => wle w1 w3 → zL_X13_receive_p108 E L Q x2 x4 x5 x6 x7 x8 x9 x10 (x11 + 1) w3) (fun e w => Q (.inr e) w))) (fun e w => Q (.inr e) w)))
theorem zt_X13_receive_p108 {E : zE} {L : Nat} {Q : kx_Rs → wS → Prop} {x2 : Int32} {x4 : Int32} {x5 : Int32} {x6 : Int32} {x7 : Int32} {x8 : Int32} {x9 : Int32} {x10 : Int32} {x11 : Int32} {w : wS} (hL : 28 ≤ L) (h : zb_X13_receive_p108 E L Q x2 x4 x5 x6 x7 x8 x9 x10 x11 w) : kzE E L kt_M522 108 [(0, .ref (w_adr E.2.1 12 0)), (2, .int x2), (4, .int x4), (5, .int x5), (6, .int x6), (7, .int x7), (8, .int x8), (9, .int x9), (10, .int x10), (11, .int x11)] [] w Q := by
  unfold zb_X13_receive_p108 at h
  refine kz_iload (M := kt_M522) kX13_receive_c8.1 rfl ?_
  refine kz_iload (M := kt_M522) kX13_receive_c8.2.1 rfl ?_
  refine kz_icmp_ge (M := kt_M522) kX13_receive_c8.2.2.1 (t := 139) rfl h (fun h => ?_) (fun h => ?_)
  · skip
    refine kz_iload (M := kt_M522) kX13_receive_c9.2.2.2.2.2.2.2.1 rfl ?_
    refine kz_iload (M := kt_M522) kX13_receive_c10.1 rfl ?_
    refine kz_iadd (M := kt_M522) kX13_receive_c10.2.1 ?_
    refine kz_sti (M := kt_M522) [(0, .ref (w_adr E.2.1 12 0)), (2, .int x2), (4, .int x4), (5, .int x5), (6, .int x6), (8, .int x8)] kX13_receive_c10.2.2.1 (Nat.le_of_ble_eq_true rfl) ⟨⟨rfl, rfl, .inl rfl⟩, ⟨⟨rfl, rfl, .inl rfl⟩, ⟨⟨rfl, rfl, .inl rfl⟩, ⟨⟨rfl, rfl, .inl rfl⟩, ⟨⟨rfl, rfl, .inr rfl⟩, ⟨⟨rfl, rfl, .inl rfl⟩, trivial⟩⟩⟩⟩⟩⟩ rfl ?_
    refine kz_inc (M := kt_M522) [(0, .ref (w_adr E.2.1 12 0)), (2, .int x2), (4, .int x4), (5, .int x5), (6, .int x6), (7, .int (x7 + x10))] kX13_receive_c10.2.2.2.1 rfl (Nat.le_of_ble_eq_true rfl) ⟨⟨rfl, rfl, .inl rfl⟩, ⟨⟨rfl, rfl, .inl rfl⟩, ⟨⟨rfl, rfl, .inl rfl⟩, ⟨⟨rfl, rfl, .inl rfl⟩, ⟨⟨rfl, rfl, .inl rfl⟩, ⟨⟨rfl, rfl, .inr rfl⟩, trivial⟩⟩⟩⟩⟩⟩ rfl ?_
    refine kz_goto (M := kt_M522) kX13_receive_c10.2.2.2.2.1 (t := 53) rfl ?_
    exact kz_weak [(0, .ref (w_adr E.2.1 12 0)), (2, .int x2), (4, .int x4), (5, .int x5), (6, .int x6), (7, .int (x7 + x10)), (8, .int (x8 + 2))] ⟨rfl, ⟨rfl, ⟨rfl, ⟨rfl, ⟨rfl, ⟨rfl, ⟨rfl, trivial⟩⟩⟩⟩⟩⟩⟩ rfl h
  · skip
    refine kz_aload_n (M := kt_M522) kX13_receive_c8.2.2.2.1 rfl ?_
    refine kz_iload (M := kt_M522) kX13_receive_c8.2.2.2.2.1 rfl ?_
    refine kz_iload (M := kt_M522) kX13_receive_c8.2.2.2.2.2.1 rfl ?_
    refine kz_iadd (M := kt_M522) kX13_receive_c8.2.2.2.2.2.2.1 ?_
    refine kz_aload_n (M := kt_M522) kX13_receive_c8.2.2.2.2.2.2.2.1 rfl ?_
    refine kz_iload (M := kt_M522) kX13_receive_c9.1 rfl ?_
    refine kz_iload (M := kt_M522) kX13_receive_c9.2.1 rfl ?_
    refine kz_iadd (M := kt_M522) kX13_receive_c9.2.2.1 ?_
    refine kz_cv1 (M := kt_M522) (c := 12) (o := 0) (As := [.int (x7 + x11)]) (rest := [.int (x9 + x11), .ref (w_adr E.2.1 12 0)]) kX13_receive_c9.2.2.2.1 wl_X13_1177 wMv_410 rfl (.inl rfl) rfl (Nat.le_trans (Nat.le_of_ble_eq_true rfl) hL) (Nat.le_of_ble_eq_true rfl) (Nat.le_of_ble_eq_true rfl) h (fun v2 w1 hle h => ?_) (fun _ _ _ h => kzx_out (zho_X13_receive_127 _) h)
    have h := h hle
    refine kz_cv0 (M := kt_M522) (c := 12) (o := 0) (As := [.int (x9 + x11), .int v2]) (rest := []) kX13_receive_c9.2.2.2.2.1 wl_X13_1367 wMv_369 rfl (.inl rfl) rfl (Nat.le_trans (Nat.le_of_ble_eq_true rfl) hL) (Nat.le_of_ble_eq_true rfl) (Nat.le_of_ble_eq_true rfl) h (fun w3 hle h => ?_) (fun _ _ _ h => kzx_out (zho_X13_receive_130 _) h)
    have h := h hle
    refine kz_inc (M := kt_M522) [(0, .ref (w_adr E.2.1 12 0)), (2, .int x2), (4, .int x4), (5, .int x5), (6, .int x6), (7, .int x7), (8, .int x8), (9, .int x9), (10, .int x10)] kX13_receive_c9.2.2.2.2.2.1 rfl (Nat.le_of_ble_eq_true rfl) ⟨⟨rfl, rfl, .inl rfl⟩, ⟨⟨rfl, rfl, .inl rfl⟩, ⟨⟨rfl, rfl, .inl rfl⟩, ⟨⟨rfl, rfl, .inl rfl⟩, ⟨⟨rfl, rfl, .inl rfl⟩, ⟨⟨rfl, rfl, .inl rfl⟩, ⟨⟨rfl, rfl, .inl rfl⟩, ⟨⟨rfl, rfl, .inl rfl⟩, ⟨⟨rfl, rfl, .inr rfl⟩, trivial⟩⟩⟩⟩⟩⟩⟩⟩⟩ rfl ?_
    refine kz_goto (M := kt_M522) kX13_receive_c9.2.2.2.2.2.2.1 (t := 108) rfl ?_
    exact kz_weak [(0, .ref (w_adr E.2.1 12 0)), (2, .int x2), (4, .int x4), (5, .int x5), (6, .int x6), (7, .int x7), (8, .int x8), (9, .int x9), (10, .int x10), (11, .int (x11 + 1))] ⟨rfl, ⟨rfl, ⟨rfl, ⟨rfl, ⟨rfl, ⟨rfl, ⟨rfl, ⟨rfl, ⟨rfl, ⟨rfl, trivial⟩⟩⟩⟩⟩⟩⟩⟩⟩⟩ rfl h
def zb_X13_receive_p53 (E : zE) (L : Nat) (Q : kx_Rs → wS → Prop) (x2 : Int32) (x4 : Int32) (x5 : Int32) (x6 : Int32) (x7 : Int32) (x8 : Int32) (w : wS) : Prop := (kx_inb (w_i w 12 0 161) (w_n w 12 0 158) = true ∧ (if w_a w 12 0 158 (w_i w 12 0 161).toNatClampNeg ≤ x8 then (kx_inb (w_i w 12 0 161) (w_n w 12 0 157) = true ∧ (kx_inb (w_i w 12 0 161) (w_n w 12 0 158) = true ∧ zw E (L - 26) kt_M456 [.ref (w_adr E.2.1 12 0), .int (w_a w 12 0 157 (w_i w 12 0 161).toNatClampNeg), .int (w_a w 12 0 158 (w_i w 12 0 161).toNatClampNeg)] w (wk0 (fun w1 => wle w w1 → (kx_inb (w_i w1 12 0 161) (w_n w1 12 0 158) = true ∧ (kx_inb (w_i w1 12 0 161) (w_n w1 12 0 147) = true ∧ zw E (L - 21) kt_M511 [.ref (w_adr E.2.1 12 0)] (ws_a (ws_a w1 12 0 158 (w_i w1 12 0 161).toNatClampNeg 0) 12 0 147 (w_i w1 12 0 161).toNatClampNeg 0) (wk0 (fun w3 => wle (ws_a (ws_a w1 12 0 158 (w_i w1 12 0 161).toNatClampNeg 0) 12 0 147 (w_i w1 12 0 161).toNatClampNeg 0) w3 → zb_X13_receive_p230 E L Q x2 x4 x5 x6 w3) (fun e w => Q (.inr e) w))))) (fun e w => Q (.inr e) w)))) else (kx_inb (w_i w 12 0 161) (w_n w 12 0 157) = true ∧ zw E (L - 21) kt_M410 [.ref (w_adr E.2.1 12 0), .int ((w_a w 12 0 157 (w_i w 12 0 161).toNatClampNeg) + x8)] w (wk1 (fun v6 w5 => wle w w5 → (kx_inb (w_i w5 12 0 161) (w_n w5 12 0 157) = true ∧ zw E (L - 21) kt_M410 [.ref (w_adr E.2.1 12 0), .int (((w_a w5 12 0 157 (w_i w5 12 0 161).toNatClampNeg) + x8) + 1)] w5 (wk1 (fun v8 w7 => wle w5 w7 → zL_X13_receive_p108 E L Q x2 x4 x5 x6 x7 x8 v6 v8 0 w7) (fun e w => Q (.inr e) w)))) (fun e w => Q (.inr e) w)))))
theorem zt_X13_receive_p53 {E : zE} {L : Nat} {Q : kx_Rs → wS → Prop} {x2 : Int32} {x4 : Int32} {x5 : Int32} {x6 : Int32} {x7 : Int32} {x8 : Int32} {w : wS} (hL : 28 ≤ L) (h : zb_X13_receive_p53 E L Q x2 x4 x5 x6 x7 x8 w) : kzE E L kt_M522 53 [(0, .ref (w_adr E.2.1 12 0)), (2, .int x2), (4, .int x4), (5, .int x5), (6, .int x6), (7, .int x7), (8, .int x8)] [] w Q := by
  unfold zb_X13_receive_p53 at h
  refine kz_iload (M := kt_M522) kX13_receive_c4.2.1 rfl ?_
  refine kz_aload_n (M := kt_M522) kX13_receive_c4.2.2.1 rfl ?_
  refine kz_gfc (M := kt_M522) (x := 4230) (c := 12) (o := 0) kX13_receive_c4.2.2.2.1 wf_X13_427 (.inl rfl) ?_
  refine kz_aload_n (M := kt_M522) kX13_receive_c4.2.2.2.2.1 rfl ?_
  refine kz_gfi (M := kt_M522) (c := 12) (o := 0) kX13_receive_c4.2.2.2.2.2.1 wf_X13_1168 (.inl rfl) ?_
  refine kz_iald (M := kt_M522) (c := 12) (o := 0) (k := 158) (a := (E.2.1 4230)) kX13_receive_c4.2.2.2.2.2.2.1 ow_12_0_158 oa_12_0_158 ot_0 h (fun h => ?_)
  refine kz_icmp_ge (M := kt_M522) kX13_receive_c4.2.2.2.2.2.2.2.1 (t := 152) rfl h (fun h => ?_) (fun h => ?_)
  · skip
    refine kz_aload_n (M := kt_M522) kX13_receive_c10.2.2.2.2.2.1 rfl ?_
    refine kz_aload_n (M := kt_M522) kX13_receive_c10.2.2.2.2.2.2.1 rfl ?_
    refine kz_gfc (M := kt_M522) (x := 4229) (c := 12) (o := 0) kX13_receive_c10.2.2.2.2.2.2.2.1 wf_X13_424 (.inl rfl) ?_
    refine kz_aload_n (M := kt_M522) kX13_receive_c11.1 rfl ?_
    refine kz_gfi (M := kt_M522) (c := 12) (o := 0) kX13_receive_c11.2.1 wf_X13_1168 (.inl rfl) ?_
    refine kz_iald (M := kt_M522) (c := 12) (o := 0) (k := 157) (a := (E.2.1 4229)) kX13_receive_c11.2.2.1 ow_12_0_157 oa_12_0_157 ot_0 h (fun h => ?_)
    refine kz_aload_n (M := kt_M522) kX13_receive_c11.2.2.2.1 rfl ?_
    refine kz_gfc (M := kt_M522) (x := 4230) (c := 12) (o := 0) kX13_receive_c11.2.2.2.2.1 wf_X13_427 (.inl rfl) ?_
    refine kz_aload_n (M := kt_M522) kX13_receive_c11.2.2.2.2.2.1 rfl ?_
    refine kz_gfi (M := kt_M522) (c := 12) (o := 0) kX13_receive_c11.2.2.2.2.2.2.1 wf_X13_1168 (.inl rfl) ?_
    refine kz_iald (M := kt_M522) (c := 12) (o := 0) (k := 158) (a := (E.2.1 4230)) kX13_receive_c11.2.2.2.2.2.2.2.1 ow_12_0_158 oa_12_0_158 ot_0 h (fun h => ?_)
    refine kz_cv0 (M := kt_M522) (c := 12) (o := 0) (As := [.int (w_a w 12 0 157 (w_i w 12 0 161).toNatClampNeg), .int (w_a w 12 0 158 (w_i w 12 0 161).toNatClampNeg)]) (rest := []) kX13_receive_c12.1 wl_X13_1180 wMv_456 rfl (.inl rfl) rfl (Nat.le_trans (Nat.le_of_ble_eq_true rfl) hL) (Nat.le_of_ble_eq_true rfl) (Nat.le_of_ble_eq_true rfl) h (fun w1 hle h => ?_) (fun _ _ _ h => kzx_out (zho_X13_receive_171 _) h)
    have h := h hle
    refine kz_aload_n (M := kt_M522) kX13_receive_c12.2.1 rfl ?_
    refine kz_gfc (M := kt_M522) (x := 4230) (c := 12) (o := 0) kX13_receive_c12.2.2.1 wf_X13_427 (.inl rfl) ?_
    refine kz_aload_n (M := kt_M522) kX13_receive_c12.2.2.2.1 rfl ?_
    refine kz_gfi (M := kt_M522) (c := 12) (o := 0) kX13_receive_c12.2.2.2.2.1 wf_X13_1168 (.inl rfl) ?_
    refine kz_ic (M := kt_M522) 0 kX13_receive_c12.2.2.2.2.2.1 rfl ?_
    refine kz_iast (M := kt_M522) (c := 12) (o := 0) (k := 158) (a := (E.2.1 4230)) kX13_receive_c12.2.2.2.2.2.2.1 ow_12_0_158 oa_12_0_158 ot_0 h (fun h => ?_)
    refine kz_aload_n (M := kt_M522) kX13_receive_c12.2.2.2.2.2.2.2.1 rfl ?_
    refine kz_gfc (M := kt_M522) (x := 4219) (c := 12) (o := 0) kX13_receive_c13.1 wf_X13_394 (.inl rfl) ?_
    refine kz_aload_n (M := kt_M522) kX13_receive_c13.2.1 rfl ?_
    refine kz_gfiR (M := kt_M522) (c := 12) (o := 0) (w_i w1 12 0 161) kX13_receive_c13.2.2.1 wf_X13_1168 (.inl rfl) rd_i_a ?_
    refine kz_ic (M := kt_M522) 0 kX13_receive_c13.2.2.2.1 rfl ?_
    refine kz_iastR (M := kt_M522) (n := w_n w1 12 0 147) (c := 12) (o := 0) (k := 147) (a := (E.2.1 4219)) kX13_receive_c13.2.2.2.2.1 ow_12_0_147 oa_12_0_147 ot_0 rd_n_a h (fun h => ?_)
    refine kz_aload_n (M := kt_M522) kX13_receive_c13.2.2.2.2.2.1 rfl ?_
    refine kz_cv0 (M := kt_M522) (c := 12) (o := 0) (As := []) (rest := []) kX13_receive_c13.2.2.2.2.2.2.1 wl_X13_1290 wMv_511 rfl (.inl rfl) rfl (Nat.le_trans (Nat.le_of_ble_eq_true rfl) hL) (Nat.le_of_ble_eq_true rfl) (Nat.le_of_ble_eq_true rfl) h (fun w3 hle h => ?_) (fun _ _ _ h => kzx_out (zho_X13_receive_195 _) h)
    have h := h hle
    refine kz_goto (M := kt_M522) kX13_receive_c13.2.2.2.2.2.2.2.1 (t := 230) rfl ?_
    exact kz_weak [(0, .ref (w_adr E.2.1 12 0)), (2, .int x2), (4, .int x4), (5, .int x5), (6, .int x6)] ⟨rfl, ⟨rfl, ⟨rfl, ⟨rfl, ⟨rfl, trivial⟩⟩⟩⟩⟩ rfl (zt_X13_receive_p230 hL  h)
  · skip
    refine kz_aload_n (M := kt_M522) kX13_receive_c5.1 rfl ?_
    refine kz_aload_n (M := kt_M522) kX13_receive_c5.2.1 rfl ?_
    refine kz_gfc (M := kt_M522) (x := 4229) (c := 12) (o := 0) kX13_receive_c5.2.2.1 wf_X13_424 (.inl rfl) ?_
    refine kz_aload_n (M := kt_M522) kX13_receive_c5.2.2.2.1 rfl ?_
    refine kz_gfi (M := kt_M522) (c := 12) (o := 0) kX13_receive_c5.2.2.2.2.1 wf_X13_1168 (.inl rfl) ?_
    refine kz_iald (M := kt_M522) (c := 12) (o := 0) (k := 157) (a := (E.2.1 4229)) kX13_receive_c5.2.2.2.2.2.1 ow_12_0_157 oa_12_0_157 ot_0 h (fun h => ?_)
    refine kz_iload (M := kt_M522) kX13_receive_c5.2.2.2.2.2.2.1 rfl ?_
    refine kz_iadd (M := kt_M522) kX13_receive_c5.2.2.2.2.2.2.2.1 ?_
    refine kz_cv1 (M := kt_M522) (c := 12) (o := 0) (As := [.int ((w_a w 12 0 157 (w_i w 12 0 161).toNatClampNeg) + x8)]) (rest := []) kX13_receive_c6.1 wl_X13_1177 wMv_410 rfl (.inl rfl) rfl (Nat.le_trans (Nat.le_of_ble_eq_true rfl) hL) (Nat.le_of_ble_eq_true rfl) (Nat.le_of_ble_eq_true rfl) h (fun v6 w5 hle h => ?_) (fun _ _ _ h => kzx_out (zho_X13_receive_80 _) h)
    have h := h hle
    refine kz_sti (M := kt_M522) [(0, .ref (w_adr E.2.1 12 0)), (2, .int x2), (4, .int x4), (5, .int x5), (6, .int x6), (7, .int x7), (8, .int x8)] kX13_receive_c6.2.1 (Nat.le_of_ble_eq_true rfl) ⟨⟨rfl, rfl, .inl rfl⟩, ⟨⟨rfl, rfl, .inl rfl⟩, ⟨⟨rfl, rfl, .inl rfl⟩, ⟨⟨rfl, rfl, .inl rfl⟩, ⟨⟨rfl, rfl, .inl rfl⟩, ⟨⟨rfl, rfl, .inl rfl⟩, ⟨⟨rfl, rfl, .inr rfl⟩, trivial⟩⟩⟩⟩⟩⟩⟩ rfl ?_
    refine kz_aload_n (M := kt_M522) kX13_receive_c6.2.2.1 rfl ?_
    refine kz_aload_n (M := kt_M522) kX13_receive_c6.2.2.2.1 rfl ?_
    refine kz_gfc (M := kt_M522) (x := 4229) (c := 12) (o := 0) kX13_receive_c6.2.2.2.2.1 wf_X13_424 (.inl rfl) ?_
    refine kz_aload_n (M := kt_M522) kX13_receive_c6.2.2.2.2.2.1 rfl ?_
    refine kz_gfi (M := kt_M522) (c := 12) (o := 0) kX13_receive_c6.2.2.2.2.2.2.1 wf_X13_1168 (.inl rfl) ?_
    refine kz_iald (M := kt_M522) (c := 12) (o := 0) (k := 157) (a := (E.2.1 4229)) kX13_receive_c6.2.2.2.2.2.2.2.1 ow_12_0_157 oa_12_0_157 ot_0 h (fun h => ?_)
    refine kz_iload (M := kt_M522) kX13_receive_c7.1 rfl ?_
    refine kz_iadd (M := kt_M522) kX13_receive_c7.2.1 ?_
    refine kz_ic (M := kt_M522) 1 kX13_receive_c7.2.2.1 rfl ?_
    refine kz_iadd (M := kt_M522) kX13_receive_c7.2.2.2.1 ?_
    refine kz_cv1 (M := kt_M522) (c := 12) (o := 0) (As := [.int (((w_a w5 12 0 157 (w_i w5 12 0 161).toNatClampNeg) + x8) + 1)]) (rest := []) kX13_receive_c7.2.2.2.2.1 wl_X13_1177 wMv_410 rfl (.inl rfl) rfl (Nat.le_trans (Nat.le_of_ble_eq_true rfl) hL) (Nat.le_of_ble_eq_true rfl) (Nat.le_of_ble_eq_true rfl) h (fun v8 w7 hle h => ?_) (fun _ _ _ h => kzx_out (zho_X13_receive_100 _) h)
    have h := h hle
    refine kz_sti (M := kt_M522) [(0, .ref (w_adr E.2.1 12 0)), (2, .int x2), (4, .int x4), (5, .int x5), (6, .int x6), (7, .int x7), (8, .int x8), (9, .int v6)] kX13_receive_c7.2.2.2.2.2.1 (Nat.le_of_ble_eq_true rfl) ⟨⟨rfl, rfl, .inl rfl⟩, ⟨⟨rfl, rfl, .inl rfl⟩, ⟨⟨rfl, rfl, .inl rfl⟩, ⟨⟨rfl, rfl, .inl rfl⟩, ⟨⟨rfl, rfl, .inl rfl⟩, ⟨⟨rfl, rfl, .inl rfl⟩, ⟨⟨rfl, rfl, .inl rfl⟩, ⟨⟨rfl, rfl, .inr rfl⟩, trivial⟩⟩⟩⟩⟩⟩⟩⟩ rfl ?_
    refine kz_ic (M := kt_M522) 0 kX13_receive_c7.2.2.2.2.2.2.1 rfl ?_
    refine kz_sti (M := kt_M522) [(0, .ref (w_adr E.2.1 12 0)), (2, .int x2), (4, .int x4), (5, .int x5), (6, .int x6), (7, .int x7), (8, .int x8), (9, .int v6), (10, .int v8)] kX13_receive_c7.2.2.2.2.2.2.2.1 (Nat.le_of_ble_eq_true rfl) ⟨⟨rfl, rfl, .inl rfl⟩, ⟨⟨rfl, rfl, .inl rfl⟩, ⟨⟨rfl, rfl, .inl rfl⟩, ⟨⟨rfl, rfl, .inl rfl⟩, ⟨⟨rfl, rfl, .inl rfl⟩, ⟨⟨rfl, rfl, .inl rfl⟩, ⟨⟨rfl, rfl, .inl rfl⟩, ⟨⟨rfl, rfl, .inl rfl⟩, ⟨⟨rfl, rfl, .inr rfl⟩, trivial⟩⟩⟩⟩⟩⟩⟩⟩⟩ rfl ?_
    exact kz_weak [(0, .ref (w_adr E.2.1 12 0)), (2, .int x2), (4, .int x4), (5, .int x5), (6, .int x6), (7, .int x7), (8, .int x8), (9, .int v6), (10, .int v8), (11, .int 0)] ⟨rfl, ⟨rfl, ⟨rfl, ⟨rfl, ⟨rfl, ⟨rfl, ⟨rfl, ⟨rfl, ⟨rfl, ⟨rfl, trivial⟩⟩⟩⟩⟩⟩⟩⟩⟩⟩ rfl h
def zb_X13_receive_p0 (E : zE) (L : Nat) (Q : kx_Rs → wS → Prop) (x1 : Int32) (x2 : Int32) (w : wS) : Prop := (kx_inb x2 (w_n w 12 0 155) = true ∧ zw E (L - 24) kt_M523 [.ref (w_adr E.2.1 12 0), .int x2, .int (w_i w 12 0 161), .int (w_a w 12 0 155 (x2).toNatClampNeg)] w (wk0 (fun w1 => wle w w1 → (kx_inb x2 (w_n w1 12 0 157) = true ∧ (kx_inb x2 (w_n w1 12 0 158) = true ∧ (kx_inb x1 (w_n w1 12 0 26) = true ∧ (if ¬ w_a w1 12 0 26 (x1).toNatClampNeg = 5 then zw E (L - 28) kt_M596 [.ref (w_adr E.2.1 12 0), .int x1, .int (w_a w1 12 0 157 (x2).toNatClampNeg)] w1 (wk0 (fun w3 => wle w1 w3 → (kx_inb (w_i w3 12 0 161) (w_n w3 12 0 147) = true ∧ zb_X13_receive_p230 E L Q x2 (w_a w1 12 0 157 (x2).toNatClampNeg) (w_a w1 12 0 158 (x2).toNatClampNeg) 1 (ws_a w3 12 0 147 (w_i w3 12 0 161).toNatClampNeg 0))) (fun e w9 => e = "MeetingHouseModel$Halt" ∧ zw E (L - 20) kt_M546 [.ref (w_adr E.2.1 12 0)] w9 (wk0 (fun w5 => wle w9 w5 → zb_X13_receive_p230 E L Q x2 (w_a w1 12 0 157 (x2).toNatClampNeg) (w_a w1 12 0 158 (x2).toNatClampNeg) 0 w5) (fun e w => Q (.inr e) w)))) else zL_X13_receive_p53 E L Q x2 (w_a w1 12 0 157 (x2).toNatClampNeg) (w_a w1 12 0 158 (x2).toNatClampNeg) 1 (w_a w1 12 0 157 (x2).toNatClampNeg) 0 w1))))) (fun e w => Q (.inr e) w)))
theorem zt_X13_receive_p0 {E : zE} {L : Nat} {Q : kx_Rs → wS → Prop} {x1 : Int32} {x2 : Int32} {w : wS} (hL : 28 ≤ L) (h : zb_X13_receive_p0 E L Q x1 x2 w) : kzE E L kt_M522 0 [(0, .ref (w_adr E.2.1 12 0)), (1, .int x1), (2, .int x2)] [] w Q := by
  unfold zb_X13_receive_p0 at h
  refine kz_aload_n (M := kt_M522) kX13_receive_c0.1 rfl ?_
  refine kz_gfc (M := kt_M522) (x := 4227) (c := 12) (o := 0) kX13_receive_c0.2.1 wf_X13_418 (.inl rfl) ?_
  refine kz_iload_n (M := kt_M522) kX13_receive_c0.2.2.1 rfl ?_
  refine kz_iald (M := kt_M522) (c := 12) (o := 0) (k := 155) (a := (E.2.1 4227)) kX13_receive_c0.2.2.2.1 ow_12_0_155 oa_12_0_155 ot_0 h (fun h => ?_)
  refine kz_sti_n (M := kt_M522) [(0, .ref (w_adr E.2.1 12 0)), (1, .int x1), (2, .int x2)] kX13_receive_c0.2.2.2.2.1 (Nat.le_of_ble_eq_true rfl) ⟨⟨rfl, rfl, .inl rfl⟩, ⟨⟨rfl, rfl, .inl rfl⟩, ⟨⟨rfl, rfl, .inr rfl⟩, trivial⟩⟩⟩ rfl ?_
  refine kz_aload_n (M := kt_M522) kX13_receive_c0.2.2.2.2.2.1 rfl ?_
  refine kz_iload_n (M := kt_M522) kX13_receive_c0.2.2.2.2.2.2.1 rfl ?_
  refine kz_aload_n (M := kt_M522) kX13_receive_c0.2.2.2.2.2.2.2.1 rfl ?_
  refine kz_gfi (M := kt_M522) (c := 12) (o := 0) kX13_receive_c1.1 wf_X13_1168 (.inl rfl) ?_
  refine kz_iload_n (M := kt_M522) kX13_receive_c1.2.1 rfl ?_
  refine kz_cv0 (M := kt_M522) (c := 12) (o := 0) (As := [.int x2, .int (w_i w 12 0 161), .int (w_a w 12 0 155 (x2).toNatClampNeg)]) (rest := []) kX13_receive_c1.2.2.1 wl_X13_1434 wMv_523 rfl (.inl rfl) rfl (Nat.le_trans (Nat.le_of_ble_eq_true rfl) hL) (Nat.le_of_ble_eq_true rfl) (Nat.le_of_ble_eq_true rfl) h (fun w1 hle h => ?_) (fun _ _ _ h => kzx_out (zho_X13_receive_14 _) h)
  have h := h hle
  refine kz_aload_n (M := kt_M522) kX13_receive_c1.2.2.2.1 rfl ?_
  refine kz_gfc (M := kt_M522) (x := 4229) (c := 12) (o := 0) kX13_receive_c1.2.2.2.2.1 wf_X13_424 (.inl rfl) ?_
  refine kz_iload_n (M := kt_M522) kX13_receive_c1.2.2.2.2.2.1 rfl ?_
  refine kz_iald (M := kt_M522) (c := 12) (o := 0) (k := 157) (a := (E.2.1 4229)) kX13_receive_c1.2.2.2.2.2.2.1 ow_12_0_157 oa_12_0_157 ot_0 h (fun h => ?_)
  refine kz_sti (M := kt_M522) [(0, .ref (w_adr E.2.1 12 0)), (1, .int x1), (2, .int x2)] kX13_receive_c1.2.2.2.2.2.2.2.1 (Nat.le_of_ble_eq_true rfl) ⟨⟨rfl, rfl, .inl rfl⟩, ⟨⟨rfl, rfl, .inl rfl⟩, ⟨⟨rfl, rfl, .inl rfl⟩, trivial⟩⟩⟩ rfl ?_
  refine kz_aload_n (M := kt_M522) kX13_receive_c2.1 rfl ?_
  refine kz_gfc (M := kt_M522) (x := 4230) (c := 12) (o := 0) kX13_receive_c2.2.1 wf_X13_427 (.inl rfl) ?_
  refine kz_iload_n (M := kt_M522) kX13_receive_c2.2.2.1 rfl ?_
  refine kz_iald (M := kt_M522) (c := 12) (o := 0) (k := 158) (a := (E.2.1 4230)) kX13_receive_c2.2.2.2.1 ow_12_0_158 oa_12_0_158 ot_0 h (fun h => ?_)
  refine kz_sti (M := kt_M522) [(0, .ref (w_adr E.2.1 12 0)), (1, .int x1), (2, .int x2), (4, .int (w_a w1 12 0 157 (x2).toNatClampNeg))] kX13_receive_c2.2.2.2.2.1 (Nat.le_of_ble_eq_true rfl) ⟨⟨rfl, rfl, .inl rfl⟩, ⟨⟨rfl, rfl, .inl rfl⟩, ⟨⟨rfl, rfl, .inl rfl⟩, ⟨⟨rfl, rfl, .inr rfl⟩, trivial⟩⟩⟩⟩ rfl ?_
  refine kz_ic (M := kt_M522) 1 kX13_receive_c2.2.2.2.2.2.1 rfl ?_
  refine kz_sti (M := kt_M522) [(0, .ref (w_adr E.2.1 12 0)), (1, .int x1), (2, .int x2), (4, .int (w_a w1 12 0 157 (x2).toNatClampNeg)), (5, .int (w_a w1 12 0 158 (x2).toNatClampNeg))] kX13_receive_c2.2.2.2.2.2.2.1 (Nat.le_of_ble_eq_true rfl) ⟨⟨rfl, rfl, .inl rfl⟩, ⟨⟨rfl, rfl, .inl rfl⟩, ⟨⟨rfl, rfl, .inl rfl⟩, ⟨⟨rfl, rfl, .inl rfl⟩, ⟨⟨rfl, rfl, .inr rfl⟩, trivial⟩⟩⟩⟩⟩ rfl ?_
  refine kz_aload_n (M := kt_M522) kX13_receive_c2.2.2.2.2.2.2.2.1 rfl ?_
  refine kz_gfc (M := kt_M522) (x := 4098) (c := 12) (o := 0) kX13_receive_c3.1 wf_X13_187 (.inl rfl) ?_
  refine kz_iload_n (M := kt_M522) kX13_receive_c3.2.1 rfl ?_
  refine kz_iald (M := kt_M522) (c := 12) (o := 0) (k := 26) (a := (E.2.1 4098)) kX13_receive_c3.2.2.1 ow_12_0_26 oa_12_0_26 ot_0 h (fun h => ?_)
  refine kz_ic (M := kt_M522) 5 kX13_receive_c3.2.2.2.1 rfl ?_
  refine kz_icmp_ne (M := kt_M522) kX13_receive_c3.2.2.2.2.1 (t := 201) rfl h (fun h => ?_) (fun h => ?_)
  · skip
    refine kz_aload_n (M := kt_M522) kX13_receive_c14.1 rfl ?_
    refine kz_iload_n (M := kt_M522) kX13_receive_c14.2.1 rfl ?_
    refine kz_iload (M := kt_M522) kX13_receive_c14.2.2.1 rfl ?_
    refine kz_cv0 (M := kt_M522) (c := 12) (o := 0) (As := [.int x1, .int (w_a w1 12 0 157 (x2).toNatClampNeg)]) (rest := []) kX13_receive_c14.2.2.2.1 wl_X13_1437 wMv_596 rfl (.inl rfl) rfl (Nat.le_trans (Nat.le_of_ble_eq_true rfl) hL) (Nat.le_of_ble_eq_true rfl) (Nat.le_of_ble_eq_true rfl) h (fun w3 hle h => ?_) (fun e w9 hle h => ?_)
    rotate_left
    · skip
      obtain ⟨he, h⟩ := h
      cases he
      refine kzx_w (M := kt_M522) [(0, .ref (w_adr E.2.1 12 0)), (2, .int x2), (4, .int (w_a w1 12 0 157 (x2).toNatClampNeg)), (5, .int (w_a w1 12 0 158 (x2).toNatClampNeg))] (zhx_X13_receive_205) kX13_receive_c15.2.2.2.1 (Nat.le_of_ble_eq_true rfl) ⟨⟨rfl, rfl, .inl rfl⟩, ⟨⟨rfl, rfl, .inl rfl⟩, ⟨⟨rfl, rfl, .inl rfl⟩, ⟨⟨rfl, rfl, .inl rfl⟩, trivial⟩⟩⟩⟩ rfl ?_
      refine kz_ic (M := kt_M522) 0 kX13_receive_c15.2.2.2.2.1 rfl ?_
      refine kz_sti (M := kt_M522) [(0, .ref (w_adr E.2.1 12 0)), (2, .int x2), (4, .int (w_a w1 12 0 157 (x2).toNatClampNeg)), (5, .int (w_a w1 12 0 158 (x2).toNatClampNeg))] kX13_receive_c15.2.2.2.2.2.1 (Nat.le_of_ble_eq_true rfl) ⟨⟨rfl, rfl, .inl rfl⟩, ⟨⟨rfl, rfl, .inl rfl⟩, ⟨⟨rfl, rfl, .inl rfl⟩, ⟨⟨rfl, rfl, .inr rfl⟩, trivial⟩⟩⟩⟩ rfl ?_
      refine kz_aload_n (M := kt_M522) kX13_receive_c15.2.2.2.2.2.2.1 rfl ?_
      refine kz_cv0 (M := kt_M522) (c := 12) (o := 0) (As := []) (rest := []) kX13_receive_c15.2.2.2.2.2.2.2.1 wl_X13_1316 wMv_546 rfl (.inl rfl) rfl (Nat.le_trans (Nat.le_of_ble_eq_true rfl) hL) (Nat.le_of_ble_eq_true rfl) (Nat.le_of_ble_eq_true rfl) h (fun w5 hle h => ?_) (fun _ _ _ h => kzx_out (zho_X13_receive_227 _) h)
      have h := h hle
      exact kz_weak [(0, .ref (w_adr E.2.1 12 0)), (2, .int x2), (4, .int (w_a w1 12 0 157 (x2).toNatClampNeg)), (5, .int (w_a w1 12 0 158 (x2).toNatClampNeg)), (6, .int 0)] ⟨rfl, ⟨rfl, ⟨rfl, ⟨rfl, ⟨rfl, trivial⟩⟩⟩⟩⟩ rfl (zt_X13_receive_p230 hL  h)
    have h := h hle
    refine kz_aload_n (M := kt_M522) kX13_receive_c14.2.2.2.2.1 rfl ?_
    refine kz_gfc (M := kt_M522) (x := 4219) (c := 12) (o := 0) kX13_receive_c14.2.2.2.2.2.1 wf_X13_394 (.inl rfl) ?_
    refine kz_aload_n (M := kt_M522) kX13_receive_c14.2.2.2.2.2.2.1 rfl ?_
    refine kz_gfi (M := kt_M522) (c := 12) (o := 0) kX13_receive_c14.2.2.2.2.2.2.2.1 wf_X13_1168 (.inl rfl) ?_
    refine kz_ic (M := kt_M522) 0 kX13_receive_c15.1 rfl ?_
    refine kz_iast (M := kt_M522) (c := 12) (o := 0) (k := 147) (a := (E.2.1 4219)) kX13_receive_c15.2.1 ow_12_0_147 oa_12_0_147 ot_0 h (fun h => ?_)
    refine kz_goto (M := kt_M522) kX13_receive_c15.2.2.1 (t := 230) rfl ?_
    exact kz_weak [(0, .ref (w_adr E.2.1 12 0)), (2, .int x2), (4, .int (w_a w1 12 0 157 (x2).toNatClampNeg)), (5, .int (w_a w1 12 0 158 (x2).toNatClampNeg)), (6, .int 1)] ⟨rfl, ⟨rfl, ⟨rfl, ⟨rfl, ⟨rfl, trivial⟩⟩⟩⟩⟩ rfl (zt_X13_receive_p230 hL  h)
  · skip
    refine kz_iload (M := kt_M522) kX13_receive_c3.2.2.2.2.2.1 rfl ?_
    refine kz_sti (M := kt_M522) [(0, .ref (w_adr E.2.1 12 0)), (2, .int x2), (4, .int (w_a w1 12 0 157 (x2).toNatClampNeg)), (5, .int (w_a w1 12 0 158 (x2).toNatClampNeg)), (6, .int 1)] kX13_receive_c3.2.2.2.2.2.2.1 (Nat.le_of_ble_eq_true rfl) ⟨⟨rfl, rfl, .inl rfl⟩, ⟨⟨rfl, rfl, .inl rfl⟩, ⟨⟨rfl, rfl, .inl rfl⟩, ⟨⟨rfl, rfl, .inl rfl⟩, ⟨⟨rfl, rfl, .inr rfl⟩, trivial⟩⟩⟩⟩⟩ rfl ?_
    refine kz_ic (M := kt_M522) 0 kX13_receive_c3.2.2.2.2.2.2.2.1 rfl ?_
    refine kz_sti (M := kt_M522) [(0, .ref (w_adr E.2.1 12 0)), (2, .int x2), (4, .int (w_a w1 12 0 157 (x2).toNatClampNeg)), (5, .int (w_a w1 12 0 158 (x2).toNatClampNeg)), (6, .int 1), (7, .int (w_a w1 12 0 157 (x2).toNatClampNeg))] kX13_receive_c4.1 (Nat.le_of_ble_eq_true rfl) ⟨⟨rfl, rfl, .inl rfl⟩, ⟨⟨rfl, rfl, .inl rfl⟩, ⟨⟨rfl, rfl, .inl rfl⟩, ⟨⟨rfl, rfl, .inl rfl⟩, ⟨⟨rfl, rfl, .inl rfl⟩, ⟨⟨rfl, rfl, .inr rfl⟩, trivial⟩⟩⟩⟩⟩⟩ rfl ?_
    exact kz_weak [(0, .ref (w_adr E.2.1 12 0)), (2, .int x2), (4, .int (w_a w1 12 0 157 (x2).toNatClampNeg)), (5, .int (w_a w1 12 0 158 (x2).toNatClampNeg)), (6, .int 1), (7, .int (w_a w1 12 0 157 (x2).toNatClampNeg)), (8, .int 0)] ⟨rfl, ⟨rfl, ⟨rfl, ⟨rfl, ⟨rfl, ⟨rfl, ⟨rfl, trivial⟩⟩⟩⟩⟩⟩⟩ rfl h
def zL_X13_step_p68 (E : zE) (L : Nat) (Q : kx_Rs → wS → Prop) (x2 : Int32) (x3 : Int32) (w : wS) : Prop := kzE E L kt_M544 68 [(0, .ref (w_adr E.2.1 12 0)), (2, .int x2), (3, .int x3)] [] w Q
def zL_X13_step_p20 (E : zE) (L : Nat) (Q : kx_Rs → wS → Prop) (x1 : Int32) (x2 : Int32) (w : wS) : Prop := kzE E L kt_M544 20 [(0, .ref (w_adr E.2.1 12 0)), (1, .int x1), (2, .int x2)] [] w Q
def zb_X13_step_p224 (E : zE) (L : Nat) (Q : kx_Rs → wS → Prop) (w : wS) : Prop := zw E (L - 23) kt_M599 [.ref (w_adr E.2.1 12 0)] (ws_i w 12 0 128 ((w_i w 12 0 128) + 1)) (wk0 (fun w1 => wle (ws_i w 12 0 128 ((w_i w 12 0 128) + 1)) w1 → Q (.inl none) w1) (fun e w => Q (.inr e) w))
theorem zt_X13_step_p224 {E : zE} {L : Nat} {Q : kx_Rs → wS → Prop} {w : wS} (hL : 23 ≤ L) (h : zb_X13_step_p224 E L Q  w) : kzE E L kt_M544 224 [(0, .ref (w_adr E.2.1 12 0))] [] w Q := by
  unfold zb_X13_step_p224 at h
  refine kz_aload_n (M := kt_M544) kX13_step_c15.2.2.2.2.1 rfl ?_
  refine kz_dup (M := kt_M544) kX13_step_c15.2.2.2.2.2.1 rfl ?_
  refine kz_gfi (M := kt_M544) (c := 12) (o := 0) kX13_step_c15.2.2.2.2.2.2.1 wf_X13_1388 (.inl rfl) ?_
  refine kz_ic (M := kt_M544) 1 kX13_step_c15.2.2.2.2.2.2.2.1 rfl ?_
  refine kz_iadd (M := kt_M544) kX13_step_c16.1 ?_
  refine kz_pfi (M := kt_M544) (c := 12) (o := 0) kX13_step_c16.2.1 wq_X13_1388 (.inl rfl) ?_
  refine kz_aload_n (M := kt_M544) kX13_step_c16.2.2.1 rfl ?_
  refine kz_cv0 (M := kt_M544) (c := 12) (o := 0) (As := []) (rest := []) kX13_step_c16.2.2.2.1 wl_X13_1476 wMv_599 rfl (.inl rfl) rfl (Nat.le_trans (Nat.le_of_ble_eq_true rfl) hL) (Nat.le_of_ble_eq_true rfl) (Nat.le_of_ble_eq_true rfl) h (fun w1 hle h => ?_) (fun _ _ _ h => kzx_out (zho_X13_step_235 _) h)
  have h := h hle
  exact kz_ret (M := kt_M544) kX13_step_c16.2.2.2.2.1 rfl h
def zb_X13_step_p220 (E : zE) (L : Nat) (Q : kx_Rs → wS → Prop) (w : wS) : Prop := zw E (L - 21) kt_M513 [.ref (w_adr E.2.1 12 0)] w (wk0 (fun w1 => wle w w1 → zb_X13_step_p224 E L Q w1) (fun e w => Q (.inr e) w))
theorem zt_X13_step_p220 {E : zE} {L : Nat} {Q : kx_Rs → wS → Prop} {w : wS} (hL : 23 ≤ L) (h : zb_X13_step_p220 E L Q  w) : kzE E L kt_M544 220 [(0, .ref (w_adr E.2.1 12 0))] [] w Q := by
  unfold zb_X13_step_p220 at h
  refine kz_aload_n (M := kt_M544) kX13_step_c15.2.2.1 rfl ?_
  refine kz_cv0 (M := kt_M544) (c := 12) (o := 0) (As := []) (rest := []) kX13_step_c15.2.2.2.1 wl_X13_1334 wMv_513 rfl (.inl rfl) rfl (Nat.le_trans (Nat.le_of_ble_eq_true rfl) hL) (Nat.le_of_ble_eq_true rfl) (Nat.le_of_ble_eq_true rfl) h (fun w1 hle h => ?_) (fun _ _ _ h => kzx_out (zho_X13_step_221 _) h)
  have h := h hle
  exact kz_weak [(0, .ref (w_adr E.2.1 12 0))] ⟨rfl, trivial⟩ rfl (zt_X13_step_p224 hL  h)
def zb_X13_step_p194 (E : zE) (L : Nat) (Q : kx_Rs → wS → Prop) (w : wS) : Prop := (if w_i w 12 0 177 < 0 then zb_X13_step_p224 E L Q w else zw E (L - 21) kt_M460 [.ref (w_adr E.2.1 12 0), .int (w_i w 12 0 177)] w (wk0 (fun w1 => wle w w1 → (if w_i w1 12 0 178 = 0 then zb_X13_step_p220 E L Q w1 else zw E (L - 21) kt_M511 [.ref (w_adr E.2.1 12 0)] w1 (wk0 (fun w3 => wle w1 w3 → zb_X13_step_p220 E L Q w3) (fun e w => Q (.inr e) w)))) (fun e w => Q (.inr e) w)))
theorem zt_X13_step_p194 {E : zE} {L : Nat} {Q : kx_Rs → wS → Prop} {w : wS} (hL : 23 ≤ L) (h : zb_X13_step_p194 E L Q  w) : kzE E L kt_M544 194 [(0, .ref (w_adr E.2.1 12 0))] [] w Q := by
  unfold zb_X13_step_p194 at h
  refine kz_aload_n (M := kt_M544) kX13_step_c13.2.2.2.2.2.2.1 rfl ?_
  refine kz_gfi (M := kt_M544) (c := 12) (o := 0) kX13_step_c13.2.2.2.2.2.2.2.1 wf_X13_1425 (.inl rfl) ?_
  refine kz_if_lt (M := kt_M544) kX13_step_c14.1 (t := 224) rfl h (fun h => ?_) (fun h => ?_)
  · skip
    exact kz_weak [(0, .ref (w_adr E.2.1 12 0))] ⟨rfl, trivial⟩ rfl (zt_X13_step_p224 hL  h)
  · skip
    refine kz_aload_n (M := kt_M544) kX13_step_c14.2.1 rfl ?_
    refine kz_aload_n (M := kt_M544) kX13_step_c14.2.2.1 rfl ?_
    refine kz_gfi (M := kt_M544) (c := 12) (o := 0) kX13_step_c14.2.2.2.1 wf_X13_1425 (.inl rfl) ?_
    refine kz_cv0 (M := kt_M544) (c := 12) (o := 0) (As := [.int (w_i w 12 0 177)]) (rest := []) kX13_step_c14.2.2.2.2.1 wl_X13_1331 wMv_460 rfl (.inl rfl) rfl (Nat.le_trans (Nat.le_of_ble_eq_true rfl) hL) (Nat.le_of_ble_eq_true rfl) (Nat.le_of_ble_eq_true rfl) h (fun w1 hle h => ?_) (fun _ _ _ h => kzx_out (zho_X13_step_206 _) h)
    have h := h hle
    refine kz_aload_n (M := kt_M544) kX13_step_c14.2.2.2.2.2.1 rfl ?_
    refine kz_gfi (M := kt_M544) (c := 12) (o := 0) kX13_step_c14.2.2.2.2.2.2.1 wf_X13_1454 (.inl rfl) ?_
    refine kz_if_eq (M := kt_M544) kX13_step_c14.2.2.2.2.2.2.2.1 (t := 220) rfl h (fun h => ?_) (fun h => ?_)
    · skip
      exact kz_weak [(0, .ref (w_adr E.2.1 12 0))] ⟨rfl, trivial⟩ rfl (zt_X13_step_p220 hL  h)
    · skip
      refine kz_aload_n (M := kt_M544) kX13_step_c15.1 rfl ?_
      refine kz_cv0 (M := kt_M544) (c := 12) (o := 0) (As := []) (rest := []) kX13_step_c15.2.1 wl_X13_1290 wMv_511 rfl (.inl rfl) rfl (Nat.le_trans (Nat.le_of_ble_eq_true rfl) hL) (Nat.le_of_ble_eq_true rfl) (Nat.le_of_ble_eq_true rfl) h (fun w3 hle h => ?_) (fun _ _ _ h => kzx_out (zho_X13_step_217 _) h)
      have h := h hle
      exact kz_weak [(0, .ref (w_adr E.2.1 12 0))] ⟨rfl, trivial⟩ rfl (zt_X13_step_p220 hL  h)
def zb_X13_step_p190 (E : zE) (L : Nat) (Q : kx_Rs → wS → Prop) (w : wS) : Prop := zw E (L - 20) kt_M546 [.ref (w_adr E.2.1 12 0)] w (wk0 (fun w1 => wle w w1 → zb_X13_step_p194 E L Q w1) (fun e w => Q (.inr e) w))
theorem zt_X13_step_p190 {E : zE} {L : Nat} {Q : kx_Rs → wS → Prop} {w : wS} (hL : 23 ≤ L) (h : zb_X13_step_p190 E L Q  w) : kzE E L kt_M544 190 [(0, .ref (w_adr E.2.1 12 0))] [] w Q := by
  unfold zb_X13_step_p190 at h
  refine kz_aload_n (M := kt_M544) kX13_step_c13.2.2.2.2.1 rfl ?_
  refine kz_cv0 (M := kt_M544) (c := 12) (o := 0) (As := []) (rest := []) kX13_step_c13.2.2.2.2.2.1 wl_X13_1316 wMv_546 rfl (.inl rfl) rfl (Nat.le_trans (Nat.le_of_ble_eq_true rfl) hL) (Nat.le_of_ble_eq_true rfl) (Nat.le_of_ble_eq_true rfl) h (fun w1 hle h => ?_) (fun _ _ _ h => kzx_out (zho_X13_step_191 _) h)
  have h := h hle
  exact kz_weak [(0, .ref (w_adr E.2.1 12 0))] ⟨rfl, trivial⟩ rfl (zt_X13_step_p194 hL  h)
def zb_X13_step_p185 (E : zE) (L : Nat) (Q : kx_Rs → wS → Prop) (w : wS) : Prop := zb_X13_step_p194 E L Q w
theorem zt_X13_step_p185 {E : zE} {L : Nat} {Q : kx_Rs → wS → Prop} {w : wS} (hL : 23 ≤ L) (h : zb_X13_step_p185 E L Q  w) : kzE E L kt_M544 185 [(0, .ref (w_adr E.2.1 12 0))] [] w Q := by
  unfold zb_X13_step_p185 at h
  refine kz_goto (M := kt_M544) kX13_step_c13.2.2.1 (t := 194) rfl ?_
  exact kz_weak [(0, .ref (w_adr E.2.1 12 0))] ⟨rfl, trivial⟩ rfl (zt_X13_step_p194 hL  h)
def zb_X13_step_p106 (E : zE) (L : Nat) (Q : kx_Rs → wS → Prop) (x3 : Int32) (y0 : Int32) (y1 : Int32) (w : wS) : Prop := zL_X13_step_p68 E L Q (y1 - y0) (x3 + 1) w
theorem zt_X13_step_p106 {E : zE} {L : Nat} {Q : kx_Rs → wS → Prop} {x3 : Int32} {y0 : Int32} {y1 : Int32} {w : wS} (hL : 23 ≤ L) (h : zb_X13_step_p106 E L Q x3 y0 y1 w) : kzE E L kt_M544 106 [(0, .ref (w_adr E.2.1 12 0)), (3, .int x3)] [.int y0, .int y1] w Q := by
  unfold zb_X13_step_p106 at h
  refine kz_isub (M := kt_M544) kX13_step_c7.2.2.2.2.2.2.2.1 ?_
  refine kz_sti_n (M := kt_M544) [(0, .ref (w_adr E.2.1 12 0)), (3, .int x3)] kX13_step_c8.1 (Nat.le_of_ble_eq_true rfl) ⟨⟨rfl, rfl, .inl rfl⟩, ⟨⟨rfl, rfl, .inl rfl⟩, trivial⟩⟩ rfl ?_
  refine kz_inc (M := kt_M544) [(0, .ref (w_adr E.2.1 12 0)), (2, .int (y1 - y0))] kX13_step_c8.2.1 rfl (Nat.le_of_ble_eq_true rfl) ⟨⟨rfl, rfl, .inl rfl⟩, ⟨⟨rfl, rfl, .inr rfl⟩, trivial⟩⟩ rfl ?_
  refine kz_goto (M := kt_M544) kX13_step_c8.2.2.1 (t := 68) rfl ?_
  exact kz_weak [(0, .ref (w_adr E.2.1 12 0)), (2, .int (y1 - y0)), (3, .int (x3 + 1))] ⟨rfl, ⟨rfl, ⟨rfl, trivial⟩⟩⟩ rfl h
def zb_X13_step_p86 (E : zE) (L : Nat) (Q : kx_Rs → wS → Prop) (x2 : Int32) (x3 : Int32) (w : wS) : Prop := (kx_inb x3 (w_n w 12 0 144) = true ∧ (kx_inb (w_a w 12 0 144 (x3).toNatClampNeg) (w_n w 12 0 147) = true ∧ (if ¬ w_a w 12 0 147 (w_a w 12 0 144 (x3).toNatClampNeg).toNatClampNeg = 0 then zb_X13_step_p106 E L Q x3 0 x2 w else zb_X13_step_p106 E L Q x3 1 x2 w)))
theorem zt_X13_step_p86 {E : zE} {L : Nat} {Q : kx_Rs → wS → Prop} {x2 : Int32} {x3 : Int32} {w : wS} (hL : 23 ≤ L) (h : zb_X13_step_p86 E L Q x2 x3 w) : kzE E L kt_M544 86 [(0, .ref (w_adr E.2.1 12 0)), (2, .int x2), (3, .int x3)] [] w Q := by
  unfold zb_X13_step_p86 at h
  refine kz_iload_n (M := kt_M544) kX13_step_c6.2.2.2.1 rfl ?_
  refine kz_aload_n (M := kt_M544) kX13_step_c6.2.2.2.2.1 rfl ?_
  refine kz_gfc (M := kt_M544) (x := 4219) (c := 12) (o := 0) kX13_step_c6.2.2.2.2.2.1 wf_X13_394 (.inl rfl) ?_
  refine kz_aload_n (M := kt_M544) kX13_step_c6.2.2.2.2.2.2.1 rfl ?_
  refine kz_gfc (M := kt_M544) (x := 4216) (c := 12) (o := 0) kX13_step_c6.2.2.2.2.2.2.2.1 wf_X13_385 (.inl rfl) ?_
  refine kz_iload_n (M := kt_M544) kX13_step_c7.1 rfl ?_
  refine kz_iald (M := kt_M544) (c := 12) (o := 0) (k := 144) (a := (E.2.1 4216)) kX13_step_c7.2.1 ow_12_0_144 oa_12_0_144 ot_0 h (fun h => ?_)
  refine kz_iald (M := kt_M544) (c := 12) (o := 0) (k := 147) (a := (E.2.1 4219)) kX13_step_c7.2.2.1 ow_12_0_147 oa_12_0_147 ot_0 h (fun h => ?_)
  refine kz_if_ne (M := kt_M544) kX13_step_c7.2.2.2.1 (t := 105) rfl h (fun h => ?_) (fun h => ?_)
  · skip
    refine kz_ic (M := kt_M544) 0 kX13_step_c7.2.2.2.2.2.2.1 rfl ?_
    exact kz_weak [(0, .ref (w_adr E.2.1 12 0)), (3, .int x3)] ⟨rfl, ⟨rfl, trivial⟩⟩ rfl (zt_X13_step_p106 hL  h)
  · skip
    refine kz_ic (M := kt_M544) 1 kX13_step_c7.2.2.2.2.1 rfl ?_
    refine kz_goto (M := kt_M544) kX13_step_c7.2.2.2.2.2.1 (t := 106) rfl ?_
    exact kz_weak [(0, .ref (w_adr E.2.1 12 0)), (3, .int x3)] ⟨rfl, ⟨rfl, trivial⟩⟩ rfl (zt_X13_step_p106 hL  h)
def zb_X13_step_p68 (E : zE) (L : Nat) (Q : kx_Rs → wS → Prop) (x2 : Int32) (x3 : Int32) (w : wS) : Prop := (kx_inb x3 (w_n w 12 0 144) = true ∧ (kx_inb (w_a w 12 0 144 (x3).toNatClampNeg) (w_n w 12 0 147) = true ∧ (if ¬ w_a w 12 0 147 (w_a w 12 0 144 (x3).toNatClampNeg).toNatClampNeg = 0 then zb_X13_step_p86 E L Q x2 x3 w else (if x2 ≤ 0 then (kx_inb x3 (w_n w 12 0 144) = true ∧ zw E (L - 21) kt_M460 [.ref (w_adr E.2.1 12 0), .int (w_a w 12 0 144 (x3).toNatClampNeg)] (ws_i (ws_i (ws_i (ws_i w 12 0 127 ((w_i w 12 0 127) + 1)) 12 0 133 0) 12 0 177 (-1)) 12 0 178 0) (wk0 (fun w1 => wle (ws_i (ws_i (ws_i (ws_i w 12 0 127 ((w_i w 12 0 127) + 1)) 12 0 133 0) 12 0 177 (-1)) 12 0 178 0) w1 → zw E (L - 23) kt_M340 [.ref (w_adr E.2.1 12 0)] w1 (wk0 (fun w3 => wle w1 w3 → zw E (L - 21) kt_M392 [.ref (w_adr E.2.1 12 0), .int 0] w3 (wk0 (fun w5 => wle w3 w5 → (kx_inb (w_i w1 12 0 161) (w_n w5 12 0 147) = true ∧ (if ¬ w_a w5 12 0 147 (w_i w1 12 0 161).toNatClampNeg = 0 then zw E (L - 20) kt_M529 [.ref (w_adr E.2.1 12 0)] w5 (wk0 (fun w7 => wle w5 w7 → zb_X13_step_p185 E L Q w7) (fun e w9 => e = "MeetingHouseModel$Halt" ∧ zb_X13_step_p190 E L Q w9)) else zw E (L - 21) kt_M513 [.ref (w_adr E.2.1 12 0)] w5 (wk0 (fun w9 => wle w5 w9 → zb_X13_step_p185 E L Q w9) (fun e w9 => e = "MeetingHouseModel$Halt" ∧ zb_X13_step_p190 E L Q w9))))) (fun e w9 => e = "MeetingHouseModel$Halt" ∧ zb_X13_step_p190 E L Q w9))) (fun e w9 => e = "MeetingHouseModel$Halt" ∧ zb_X13_step_p190 E L Q w9))) (fun e w => Q (.inr e) w))) else zb_X13_step_p86 E L Q x2 x3 w))))
theorem zt_X13_step_p68 {E : zE} {L : Nat} {Q : kx_Rs → wS → Prop} {x2 : Int32} {x3 : Int32} {w : wS} (hL : 23 ≤ L) (h : zb_X13_step_p68 E L Q x2 x3 w) : kzE E L kt_M544 68 [(0, .ref (w_adr E.2.1 12 0)), (2, .int x2), (3, .int x3)] [] w Q := by
  unfold zb_X13_step_p68 at h
  refine kz_aload_n (M := kt_M544) kX13_step_c5.2.1 rfl ?_
  refine kz_gfc (M := kt_M544) (x := 4219) (c := 12) (o := 0) kX13_step_c5.2.2.1 wf_X13_394 (.inl rfl) ?_
  refine kz_aload_n (M := kt_M544) kX13_step_c5.2.2.2.1 rfl ?_
  refine kz_gfc (M := kt_M544) (x := 4216) (c := 12) (o := 0) kX13_step_c5.2.2.2.2.1 wf_X13_385 (.inl rfl) ?_
  refine kz_iload_n (M := kt_M544) kX13_step_c5.2.2.2.2.2.1 rfl ?_
  refine kz_iald (M := kt_M544) (c := 12) (o := 0) (k := 144) (a := (E.2.1 4216)) kX13_step_c5.2.2.2.2.2.2.1 ow_12_0_144 oa_12_0_144 ot_0 h (fun h => ?_)
  refine kz_iald (M := kt_M544) (c := 12) (o := 0) (k := 147) (a := (E.2.1 4219)) kX13_step_c5.2.2.2.2.2.2.2.1 ow_12_0_147 oa_12_0_147 ot_0 h (fun h => ?_)
  refine kz_if_ne (M := kt_M544) kX13_step_c6.1 (t := 86) rfl h (fun h => ?_) (fun h => ?_)
  · skip
    exact kz_weak [(0, .ref (w_adr E.2.1 12 0)), (2, .int x2), (3, .int x3)] ⟨rfl, ⟨rfl, ⟨rfl, trivial⟩⟩⟩ rfl (zt_X13_step_p86 hL  h)
  · skip
    refine kz_iload_n (M := kt_M544) kX13_step_c6.2.1 rfl ?_
    refine kz_if_le (M := kt_M544) kX13_step_c6.2.2.1 (t := 114) rfl h (fun h => ?_) (fun h => ?_)
    · skip
      refine kz_aload_n (M := kt_M544) kX13_step_c8.2.2.2.1 rfl ?_
      refine kz_dup (M := kt_M544) kX13_step_c8.2.2.2.2.1 rfl ?_
      refine kz_gfi (M := kt_M544) (c := 12) (o := 0) kX13_step_c8.2.2.2.2.2.1 wf_X13_1431 (.inl rfl) ?_
      refine kz_ic (M := kt_M544) 1 kX13_step_c8.2.2.2.2.2.2.1 rfl ?_
      refine kz_iadd (M := kt_M544) kX13_step_c8.2.2.2.2.2.2.2.1 ?_
      refine kz_pfi (M := kt_M544) (c := 12) (o := 0) kX13_step_c9.1 wq_X13_1431 (.inl rfl) ?_
      refine kz_aload_n (M := kt_M544) kX13_step_c9.2.1 rfl ?_
      refine kz_ic (M := kt_M544) 0 kX13_step_c9.2.2.1 rfl ?_
      refine kz_pfi (M := kt_M544) (c := 12) (o := 0) kX13_step_c9.2.2.2.1 wq_X13_1260 (.inl rfl) ?_
      refine kz_aload_n (M := kt_M544) kX13_step_c9.2.2.2.2.1 rfl ?_
      refine kz_ic (M := kt_M544) (-1) kX13_step_c9.2.2.2.2.2.1 rfl ?_
      refine kz_pfi (M := kt_M544) (c := 12) (o := 0) kX13_step_c9.2.2.2.2.2.2.1 wq_X13_1425 (.inl rfl) ?_
      refine kz_aload_n (M := kt_M544) kX13_step_c9.2.2.2.2.2.2.2.1 rfl ?_
      refine kz_ic (M := kt_M544) 0 kX13_step_c10.1 rfl ?_
      refine kz_pfz (M := kt_M544) (c := 12) (o := 0) kX13_step_c10.2.1 wq_X13_1454 (.inl rfl) (by decide) ?_
      refine kz_aload_n (M := kt_M544) kX13_step_c10.2.2.1 rfl ?_
      refine kz_aload_n (M := kt_M544) kX13_step_c10.2.2.2.1 rfl ?_
      refine kz_gfc (M := kt_M544) (x := 4216) (c := 12) (o := 0) kX13_step_c10.2.2.2.2.1 wf_X13_385 (.inl rfl) ?_
      refine kz_iload_n (M := kt_M544) kX13_step_c10.2.2.2.2.2.1 rfl ?_
      refine kz_ialdR (M := kt_M544) (n := w_n w 12 0 144) (c := 12) (o := 0) (k := 144) (a := (E.2.1 4216)) (w_a w 12 0 144 (x3).toNatClampNeg) kX13_step_c10.2.2.2.2.2.2.1 ow_12_0_144 oa_12_0_144 ot_0 (rd_n_i.trans (rd_n_i.trans (rd_n_i.trans rd_n_i))) (rd_a_i.trans (rd_a_i.trans (rd_a_i.trans rd_a_i))) h (fun h => ?_)
      refine kz_cv0 (M := kt_M544) (c := 12) (o := 0) (As := [.int (w_a w 12 0 144 (x3).toNatClampNeg)]) (rest := []) kX13_step_c10.2.2.2.2.2.2.2.1 wl_X13_1331 wMv_460 rfl (.inl rfl) rfl (Nat.le_trans (Nat.le_of_ble_eq_true rfl) hL) (Nat.le_of_ble_eq_true rfl) (Nat.le_of_ble_eq_true rfl) h (fun w1 hle h => ?_) (fun _ _ _ h => kzx_out (zho_X13_step_146 _) h)
      have h := h hle
      refine kz_aload_n (M := kt_M544) kX13_step_c11.1 rfl ?_
      refine kz_gfi (M := kt_M544) (c := 12) (o := 0) kX13_step_c11.2.1 wf_X13_1168 (.inl rfl) ?_
      refine kz_sti (M := kt_M544) [(0, .ref (w_adr E.2.1 12 0))] kX13_step_c11.2.2.1 (Nat.le_of_ble_eq_true rfl) ⟨⟨rfl, rfl, .inl rfl⟩, trivial⟩ rfl ?_
      refine kz_aload_n (M := kt_M544) kX13_step_c11.2.2.2.1 rfl ?_
      refine kz_cv0 (M := kt_M544) (c := 12) (o := 0) (As := []) (rest := []) kX13_step_c11.2.2.2.2.1 wl_X13_1284 wMv_340 rfl (.inl rfl) rfl (Nat.le_trans (Nat.le_of_ble_eq_true rfl) hL) (Nat.le_of_ble_eq_true rfl) (Nat.le_of_ble_eq_true rfl) h (fun w3 hle h => ?_) (fun e w9 hle h => ?_)
      rotate_left
      · skip
        obtain ⟨he, h⟩ := h
        cases he
        refine kzx_w (M := kt_M544) [(0, .ref (w_adr E.2.1 12 0))] (zhx_X13_step_156) kX13_step_c13.2.2.2.1 (Nat.le_of_ble_eq_true rfl) ⟨⟨rfl, rfl, .inl rfl⟩, trivial⟩ rfl ?_
        exact kz_weak [(0, .ref (w_adr E.2.1 12 0))] ⟨rfl, trivial⟩ rfl (zt_X13_step_p190 hL  h)
      have h := h hle
      refine kz_aload_n (M := kt_M544) kX13_step_c11.2.2.2.2.2.1 rfl ?_
      refine kz_ic (M := kt_M544) 0 kX13_step_c11.2.2.2.2.2.2.1 rfl ?_
      refine kz_cv0 (M := kt_M544) (c := 12) (o := 0) (As := [.int 0]) (rest := []) kX13_step_c11.2.2.2.2.2.2.2.1 wl_X13_1287 wMv_392 rfl (.inl rfl) rfl (Nat.le_trans (Nat.le_of_ble_eq_true rfl) hL) (Nat.le_of_ble_eq_true rfl) (Nat.le_of_ble_eq_true rfl) h (fun w5 hle h => ?_) (fun e w9 hle h => ?_)
      rotate_left
      · skip
        obtain ⟨he, h⟩ := h
        cases he
        refine kzx_w (M := kt_M544) [(0, .ref (w_adr E.2.1 12 0))] (zhx_X13_step_161) kX13_step_c13.2.2.2.1 (Nat.le_of_ble_eq_true rfl) ⟨⟨rfl, rfl, .inl rfl⟩, trivial⟩ rfl ?_
        exact kz_weak [(0, .ref (w_adr E.2.1 12 0))] ⟨rfl, trivial⟩ rfl (zt_X13_step_p190 hL  h)
      have h := h hle
      refine kz_aload_n (M := kt_M544) kX13_step_c12.1 rfl ?_
      refine kz_gfc (M := kt_M544) (x := 4219) (c := 12) (o := 0) kX13_step_c12.2.1 wf_X13_394 (.inl rfl) ?_
      refine kz_iload (M := kt_M544) kX13_step_c12.2.2.1 rfl ?_
      refine kz_iald (M := kt_M544) (c := 12) (o := 0) (k := 147) (a := (E.2.1 4219)) kX13_step_c12.2.2.2.1 ow_12_0_147 oa_12_0_147 ot_0 h (fun h => ?_)
      refine kz_if_ne (M := kt_M544) kX13_step_c12.2.2.2.2.1 (t := 181) rfl h (fun h => ?_) (fun h => ?_)
      · skip
        refine kz_aload_n (M := kt_M544) kX13_step_c13.1 rfl ?_
        refine kz_cv0 (M := kt_M544) (c := 12) (o := 0) (As := []) (rest := []) kX13_step_c13.2.1 wl_X13_1319 wMv_529 rfl (.inl rfl) rfl (Nat.le_trans (Nat.le_of_ble_eq_true rfl) hL) (Nat.le_of_ble_eq_true rfl) (Nat.le_of_ble_eq_true rfl) h (fun w7 hle h => ?_) (fun e w9 hle h => ?_)
        rotate_left
        · skip
          obtain ⟨he, h⟩ := h
          cases he
          refine kzx_w (M := kt_M544) [(0, .ref (w_adr E.2.1 12 0))] (zhx_X13_step_182) kX13_step_c13.2.2.2.1 (Nat.le_of_ble_eq_true rfl) ⟨⟨rfl, rfl, .inl rfl⟩, trivial⟩ rfl ?_
          exact kz_weak [(0, .ref (w_adr E.2.1 12 0))] ⟨rfl, trivial⟩ rfl (zt_X13_step_p190 hL  h)
        have h := h hle
        exact kz_weak [(0, .ref (w_adr E.2.1 12 0))] ⟨rfl, trivial⟩ rfl (zt_X13_step_p185 hL  h)
      · skip
        refine kz_aload_n (M := kt_M544) kX13_step_c12.2.2.2.2.2.1 rfl ?_
        refine kz_cv0 (M := kt_M544) (c := 12) (o := 0) (As := []) (rest := []) kX13_step_c12.2.2.2.2.2.2.1 wl_X13_1334 wMv_513 rfl (.inl rfl) rfl (Nat.le_trans (Nat.le_of_ble_eq_true rfl) hL) (Nat.le_of_ble_eq_true rfl) (Nat.le_of_ble_eq_true rfl) h (fun w9 hle h => ?_) (fun e w9 hle h => ?_)
        rotate_left
        · skip
          obtain ⟨he, h⟩ := h
          cases he
          refine kzx_w (M := kt_M544) [(0, .ref (w_adr E.2.1 12 0))] (zhx_X13_step_175) kX13_step_c13.2.2.2.1 (Nat.le_of_ble_eq_true rfl) ⟨⟨rfl, rfl, .inl rfl⟩, trivial⟩ rfl ?_
          exact kz_weak [(0, .ref (w_adr E.2.1 12 0))] ⟨rfl, trivial⟩ rfl (zt_X13_step_p190 hL  h)
        have h := h hle
        refine kz_goto (M := kt_M544) kX13_step_c12.2.2.2.2.2.2.2.1 (t := 185) rfl ?_
        exact kz_weak [(0, .ref (w_adr E.2.1 12 0))] ⟨rfl, trivial⟩ rfl (zt_X13_step_p185 hL  h)
    · skip
      exact kz_weak [(0, .ref (w_adr E.2.1 12 0)), (2, .int x2), (3, .int x3)] ⟨rfl, ⟨rfl, ⟨rfl, trivial⟩⟩⟩ rfl (zt_X13_step_p86 hL  h)
def zb_X13_step_p48 (E : zE) (L : Nat) (Q : kx_Rs → wS → Prop) (x2 : Int32) (y0 : Int32) (y1 : Int32) (w : wS) : Prop := zL_X13_step_p20 E L Q (y1 + y0) (x2 + 1) w
theorem zt_X13_step_p48 {E : zE} {L : Nat} {Q : kx_Rs → wS → Prop} {x2 : Int32} {y0 : Int32} {y1 : Int32} {w : wS} (hL : 23 ≤ L) (h : zb_X13_step_p48 E L Q x2 y0 y1 w) : kzE E L kt_M544 48 [(0, .ref (w_adr E.2.1 12 0)), (2, .int x2)] [.int y0, .int y1] w Q := by
  unfold zb_X13_step_p48 at h
  refine kz_iadd (M := kt_M544) kX13_step_c3.2.2.2.2.1 ?_
  refine kz_sti_n (M := kt_M544) [(0, .ref (w_adr E.2.1 12 0)), (2, .int x2)] kX13_step_c3.2.2.2.2.2.1 (Nat.le_of_ble_eq_true rfl) ⟨⟨rfl, rfl, .inr rfl⟩, ⟨⟨rfl, rfl, .inl rfl⟩, trivial⟩⟩ rfl ?_
  refine kz_inc (M := kt_M544) [(0, .ref (w_adr E.2.1 12 0)), (1, .int (y1 + y0))] kX13_step_c3.2.2.2.2.2.2.1 rfl (Nat.le_of_ble_eq_true rfl) ⟨⟨rfl, rfl, .inl rfl⟩, ⟨⟨rfl, rfl, .inr rfl⟩, trivial⟩⟩ rfl ?_
  refine kz_goto (M := kt_M544) kX13_step_c3.2.2.2.2.2.2.2.1 (t := 20) rfl ?_
  exact kz_weak [(0, .ref (w_adr E.2.1 12 0)), (1, .int (y1 + y0)), (2, .int (x2 + 1))] ⟨rfl, ⟨rfl, ⟨rfl, trivial⟩⟩⟩ rfl h
def zb_X13_step_p20 (E : zE) (L : Nat) (Q : kx_Rs → wS → Prop) (x1 : Int32) (x2 : Int32) (w : wS) : Prop := (if w_i w 12 0 143 ≤ x2 then (¬ x1 = 0 ∧ zL_X13_step_p68 E L Q ((((w_i w 12 0 126).toUInt32 >>> ((16 : Int32).toUInt32 &&& Int32.toUInt32 31)).toInt32) - (((w_i w 12 0 126).toUInt32 >>> ((16 : Int32).toUInt32 &&& Int32.toUInt32 31)).toInt32) / x1 * x1) 0 w) else (kx_inb x2 (w_n w 12 0 144) = true ∧ (kx_inb (w_a w 12 0 144 (x2).toNatClampNeg) (w_n w 12 0 147) = true ∧ (if ¬ w_a w 12 0 147 (w_a w 12 0 144 (x2).toNatClampNeg).toNatClampNeg = 0 then zb_X13_step_p48 E L Q x2 0 x1 w else zb_X13_step_p48 E L Q x2 1 x1 w))))
theorem zt_X13_step_p20 {E : zE} {L : Nat} {Q : kx_Rs → wS → Prop} {x1 : Int32} {x2 : Int32} {w : wS} (hL : 23 ≤ L) (h : zb_X13_step_p20 E L Q x1 x2 w) : kzE E L kt_M544 20 [(0, .ref (w_adr E.2.1 12 0)), (1, .int x1), (2, .int x2)] [] w Q := by
  unfold zb_X13_step_p20 at h
  refine kz_iload_n (M := kt_M544) kX13_step_c1.2.2.2.2.1 rfl ?_
  refine kz_aload_n (M := kt_M544) kX13_step_c1.2.2.2.2.2.1 rfl ?_
  refine kz_gfi (M := kt_M544) (c := 12) (o := 0) kX13_step_c1.2.2.2.2.2.2.1 wf_X13_1186 (.inl rfl) ?_
  refine kz_icmp_ge (M := kt_M544) kX13_step_c1.2.2.2.2.2.2.2.1 (t := 56) rfl h (fun h => ?_) (fun h => ?_)
  · skip
    refine kz_aload_n (M := kt_M544) kX13_step_c4.1 rfl ?_
    refine kz_gfi (M := kt_M544) (c := 12) (o := 0) kX13_step_c4.2.1 wf_X13_1472 (.inl rfl) ?_
    refine kz_bi (M := kt_M544) 16 kX13_step_c4.2.2.1 rfl ?_
    refine kz_iushr (M := kt_M544) kX13_step_c4.2.2.2.1 ?_
    refine kz_iload_n (M := kt_M544) kX13_step_c4.2.2.2.2.1 rfl ?_
    obtain ⟨h0, h⟩ := h
    refine kz_irem (M := kt_M544) kX13_step_c4.2.2.2.2.2.1 h0 ?_
    refine kz_sti_n (M := kt_M544) [(0, .ref (w_adr E.2.1 12 0))] kX13_step_c4.2.2.2.2.2.2.1 (Nat.le_of_ble_eq_true rfl) ⟨⟨rfl, rfl, .inl rfl⟩, trivial⟩ rfl ?_
    refine kz_ic (M := kt_M544) 0 kX13_step_c4.2.2.2.2.2.2.2.1 rfl ?_
    refine kz_sti_n (M := kt_M544) [(0, .ref (w_adr E.2.1 12 0)), (2, .int ((((w_i w 12 0 126).toUInt32 >>> ((16 : Int32).toUInt32 &&& Int32.toUInt32 31)).toInt32) - (((w_i w 12 0 126).toUInt32 >>> ((16 : Int32).toUInt32 &&& Int32.toUInt32 31)).toInt32) / x1 * x1))] kX13_step_c5.1 (Nat.le_of_ble_eq_true rfl) ⟨⟨rfl, rfl, .inl rfl⟩, ⟨⟨rfl, rfl, .inr rfl⟩, trivial⟩⟩ rfl ?_
    exact kz_weak [(0, .ref (w_adr E.2.1 12 0)), (2, .int ((((w_i w 12 0 126).toUInt32 >>> ((16 : Int32).toUInt32 &&& Int32.toUInt32 31)).toInt32) - (((w_i w 12 0 126).toUInt32 >>> ((16 : Int32).toUInt32 &&& Int32.toUInt32 31)).toInt32) / x1 * x1)), (3, .int 0)] ⟨rfl, ⟨rfl, ⟨rfl, trivial⟩⟩⟩ rfl h
  · skip
    refine kz_iload_n (M := kt_M544) kX13_step_c2.1 rfl ?_
    refine kz_aload_n (M := kt_M544) kX13_step_c2.2.1 rfl ?_
    refine kz_gfc (M := kt_M544) (x := 4219) (c := 12) (o := 0) kX13_step_c2.2.2.1 wf_X13_394 (.inl rfl) ?_
    refine kz_aload_n (M := kt_M544) kX13_step_c2.2.2.2.1 rfl ?_
    refine kz_gfc (M := kt_M544) (x := 4216) (c := 12) (o := 0) kX13_step_c2.2.2.2.2.1 wf_X13_385 (.inl rfl) ?_
    refine kz_iload_n (M := kt_M544) kX13_step_c2.2.2.2.2.2.1 rfl ?_
    refine kz_iald (M := kt_M544) (c := 12) (o := 0) (k := 144) (a := (E.2.1 4216)) kX13_step_c2.2.2.2.2.2.2.1 ow_12_0_144 oa_12_0_144 ot_0 h (fun h => ?_)
    refine kz_iald (M := kt_M544) (c := 12) (o := 0) (k := 147) (a := (E.2.1 4219)) kX13_step_c2.2.2.2.2.2.2.2.1 ow_12_0_147 oa_12_0_147 ot_0 h (fun h => ?_)
    refine kz_if_ne (M := kt_M544) kX13_step_c3.1 (t := 47) rfl h (fun h => ?_) (fun h => ?_)
    · skip
      refine kz_ic (M := kt_M544) 0 kX13_step_c3.2.2.2.1 rfl ?_
      exact kz_weak [(0, .ref (w_adr E.2.1 12 0)), (2, .int x2)] ⟨rfl, ⟨rfl, trivial⟩⟩ rfl (zt_X13_step_p48 hL  h)
    · skip
      refine kz_ic (M := kt_M544) 1 kX13_step_c3.2.1 rfl ?_
      refine kz_goto (M := kt_M544) kX13_step_c3.2.2.1 (t := 48) rfl ?_
      exact kz_weak [(0, .ref (w_adr E.2.1 12 0)), (2, .int x2)] ⟨rfl, ⟨rfl, trivial⟩⟩ rfl (zt_X13_step_p48 hL  h)
def zb_X13_step_p0 (E : zE) (L : Nat) (Q : kx_Rs → wS → Prop) (w : wS) : Prop := zL_X13_step_p20 E L Q 0 0 (ws_i w 12 0 126 (((w_i w 12 0 126) * 1103515245) + 12345))
theorem zt_X13_step_p0 {E : zE} {L : Nat} {Q : kx_Rs → wS → Prop} {w : wS} (hL : 23 ≤ L) (h : zb_X13_step_p0 E L Q  w) : kzE E L kt_M544 0 [(0, .ref (w_adr E.2.1 12 0))] [] w Q := by
  unfold zb_X13_step_p0 at h
  refine kz_aload_n (M := kt_M544) kX13_step_c0.1 rfl ?_
  refine kz_aload_n (M := kt_M544) kX13_step_c0.2.1 rfl ?_
  refine kz_gfi (M := kt_M544) (c := 12) (o := 0) kX13_step_c0.2.2.1 wf_X13_1472 (.inl rfl) ?_
  refine kz_ldcw (M := kt_M544) (x := 1103515245) kX13_step_c0.2.2.2.1 (zc_X13_1475) ?_
  refine kz_imul (M := kt_M544) kX13_step_c0.2.2.2.2.1 ?_
  refine kz_si (M := kt_M544) 12345 kX13_step_c0.2.2.2.2.2.1 rfl ?_
  refine kz_iadd (M := kt_M544) kX13_step_c0.2.2.2.2.2.2.1 ?_
  refine kz_pfi (M := kt_M544) (c := 12) (o := 0) kX13_step_c0.2.2.2.2.2.2.2.1 wq_X13_1472 (.inl rfl) ?_
  refine kz_ic (M := kt_M544) 0 kX13_step_c1.1 rfl ?_
  refine kz_sti_n (M := kt_M544) [(0, .ref (w_adr E.2.1 12 0))] kX13_step_c1.2.1 (Nat.le_of_ble_eq_true rfl) ⟨⟨rfl, rfl, .inr rfl⟩, trivial⟩ rfl ?_
  refine kz_ic (M := kt_M544) 0 kX13_step_c1.2.2.1 rfl ?_
  refine kz_sti_n (M := kt_M544) [(0, .ref (w_adr E.2.1 12 0)), (1, .int 0)] kX13_step_c1.2.2.2.1 (Nat.le_of_ble_eq_true rfl) ⟨⟨rfl, rfl, .inl rfl⟩, ⟨⟨rfl, rfl, .inr rfl⟩, trivial⟩⟩ rfl ?_
  exact kz_weak [(0, .ref (w_adr E.2.1 12 0)), (1, .int 0), (2, .int 0)] ⟨rfl, ⟨rfl, ⟨rfl, trivial⟩⟩⟩ rfl h
