set_option maxRecDepth 100000
def tJ4_length_c0 : List dqE := [(0, .aload_n 0, 1, [42]), (1, .getfield 9, 3, [180, 0, 9]), (4, .arraylength, 1, [190]), (5, .aload_n 0, 1, [42]), (6, .invokevirtual 335, 3, [182, 1, 79]), (9, .ishr, 1, [122]), (10, .ireturn, 1, [172])]
def tJ4_length : List (List dqE) := [tJ4_length_c0]
theorem tJ4_length_ok : dchk tJ4_length.flatten 0 (prog_34_method_54_code).data.toList = true := by decide +kernel
theorem kJ4_length_c0 : dconj prog_34_method_54_code tJ4_length_c0 := dchk_c tJ4_length_ok 0 rfl
def tJ4_coder_c0 : List dqE := [(0, .getstatic 38, 3, [178, 0, 38]), (3, .ifCond .eq 10, 3, [153, 0, 10]), (6, .aload_n 0, 1, [42]), (7, .getfield 15, 3, [180, 0, 15]), (10, .goto 4, 3, [167, 0, 4]), (13, .iconst 1, 1, [4]), (14, .ireturn, 1, [172])]
def tJ4_coder : List (List dqE) := [tJ4_coder_c0]
theorem tJ4_coder_ok : dchk tJ4_coder.flatten 0 (prog_34_method_152_code).data.toList = true := by decide +kernel
theorem kJ4_coder_c0 : dconj prog_34_method_152_code tJ4_coder_c0 := dchk_c tJ4_coder_ok 0 rfl
def tJ4_charAt_c0 : List dqE := [(0, .aload_n 0, 1, [42]), (1, .invokevirtual 492, 3, [182, 1, 236]), (4, .ifCond .eq 12, 3, [153, 0, 12]), (7, .aload_n 0, 1, [42]), (8, .getfield 9, 3, [180, 0, 9]), (11, .iload_n 1, 1, [27]), (12, .invokestatic 495, 3, [184, 1, 239]), (15, .ireturn, 1, [172])]
def tJ4_charAt_c1 : List dqE := [(16, .aload_n 0, 1, [42]), (17, .getfield 9, 3, [180, 0, 9]), (20, .iload_n 1, 1, [27]), (21, .invokestatic 498, 3, [184, 1, 242]), (24, .ireturn, 1, [172])]
def tJ4_charAt : List (List dqE) := [tJ4_charAt_c0, tJ4_charAt_c1]
theorem tJ4_charAt_ok : dchk tJ4_charAt.flatten 0 (prog_34_method_56_code).data.toList = true := by decide +kernel
theorem kJ4_charAt_c0 : dconj prog_34_method_56_code tJ4_charAt_c0 := dchk_c tJ4_charAt_ok 0 rfl
theorem kJ4_charAt_c1 : dconj prog_34_method_56_code tJ4_charAt_c1 := dchk_c tJ4_charAt_ok 1 rfl
def tJ4_isLatin1_c0 : List dqE := [(0, .getstatic 38, 3, [178, 0, 38]), (3, .ifCond .eq 14, 3, [153, 0, 14]), (6, .aload_n 0, 1, [42]), (7, .getfield 15, 3, [180, 0, 15]), (10, .ifCond .ne 7, 3, [154, 0, 7]), (13, .iconst 1, 1, [4]), (14, .goto 4, 3, [167, 0, 4]), (17, .iconst 0, 1, [3])]
def tJ4_isLatin1_c1 : List dqE := [(18, .ireturn, 1, [172])]
def tJ4_isLatin1 : List (List dqE) := [tJ4_isLatin1_c0, tJ4_isLatin1_c1]
theorem tJ4_isLatin1_ok : dchk tJ4_isLatin1.flatten 0 (prog_34_method_154_code).data.toList = true := by decide +kernel
theorem kJ4_isLatin1_c0 : dconj prog_34_method_154_code tJ4_isLatin1_c0 := dchk_c tJ4_isLatin1_ok 0 rfl
theorem kJ4_isLatin1_c1 : dconj prog_34_method_154_code tJ4_isLatin1_c1 := dchk_c tJ4_isLatin1_ok 1 rfl
def tJ4_checkIndex_c0 : List dqE := [(0, .iload_n 0, 1, [26]), (1, .iload_n 1, 1, [27]), (2, .getstatic 1053, 3, [178, 4, 29]), (5, .invokestatic 1059, 3, [184, 4, 35]), (8, .pop, 1, [87]), (9, .return_, 1, [177])]
def tJ4_checkIndex : List (List dqE) := [tJ4_checkIndex_c0]
theorem tJ4_checkIndex_ok : dchk tJ4_checkIndex.flatten 0 (prog_34_method_155_code).data.toList = true := by decide +kernel
theorem kJ4_checkIndex_c0 : dconj prog_34_method_155_code tJ4_checkIndex_c0 := dchk_c tJ4_checkIndex_ok 0 rfl
def tJ5_charAt_c0 : List dqE := [(0, .iload_n 1, 1, [27]), (1, .aload_n 0, 1, [42]), (2, .arraylength, 1, [190]), (3, .invokestatic 9, 3, [184, 0, 9]), (6, .aload_n 0, 1, [42]), (7, .iload_n 1, 1, [27]), (8, .baload, 1, [51]), (9, .sipush 255, 3, [17, 0, 255])]
def tJ5_charAt_c1 : List dqE := [(12, .iand, 1, [126]), (13, .i2c, 1, [146]), (14, .ireturn, 1, [172])]
def tJ5_charAt : List (List dqE) := [tJ5_charAt_c0, tJ5_charAt_c1]
theorem tJ5_charAt_ok : dchk tJ5_charAt.flatten 0 (prog_35_method_2_code).data.toList = true := by decide +kernel
theorem kJ5_charAt_c0 : dconj prog_35_method_2_code tJ5_charAt_c0 := dchk_c tJ5_charAt_ok 0 rfl
theorem kJ5_charAt_c1 : dconj prog_35_method_2_code tJ5_charAt_c1 := dchk_c tJ5_charAt_ok 1 rfl
def tJ6_checkIndex_c0 : List dqE := [(0, .iload_n 0, 1, [26]), (1, .ifCond .lt 8, 3, [155, 0, 8]), (4, .iload_n 0, 1, [26]), (5, .iload_n 1, 1, [27]), (6, .if_icmp .lt 10, 3, [161, 0, 10]), (9, .aload_n 2, 1, [44]), (10, .iload_n 0, 1, [26]), (11, .iload_n 1, 1, [27])]
def tJ6_checkIndex_c1 : List dqE := [(12, .invokestatic 95, 3, [184, 0, 95]), (15, .athrow, 1, [191]), (16, .iload_n 0, 1, [26]), (17, .ireturn, 1, [172])]
def tJ6_checkIndex : List (List dqE) := [tJ6_checkIndex_c0, tJ6_checkIndex_c1]
theorem tJ6_checkIndex_ok : dchk tJ6_checkIndex.flatten 0 (prog_39_method_11_code).data.toList = true := by decide +kernel
theorem kJ6_checkIndex_c0 : dconj prog_39_method_11_code tJ6_checkIndex_c0 := dchk_c tJ6_checkIndex_ok 0 rfl
theorem kJ6_checkIndex_c1 : dconj prog_39_method_11_code tJ6_checkIndex_c1 := dchk_c tJ6_checkIndex_ok 1 rfl
/-! ===== String.length, String.charAt over constants ===== -/
def kw_sl (i : Nat) : Nat := (kw_st.getD i ("", 0, "", [])).2.2.2.length
def kw_sc (i k : Nat) : Int32 := (kw_st.getD i ("", 0, "", [])).2.2.2.getD k 0
def zK (E : zE) (x : Option Nat) (i : Nat) : Prop := zA E ∧ i < 68 ∧ x = some (E.1.2.1 i)
theorem kw_first_none {f : Nat → Nat} {n a : Nat} (h : ∀ j, j < n → f j ≠ a) : kw_first f n a = none := by
  unfold kw_first
  rw [List.find?_eq_none]
  intro j hj
  simp only [decide_eq_true_eq]
  exact h j (List.mem_range.mp hj)
theorem kw_first_some {f : Nat → Nat} {n a j : Nat} (hj : j < n) (h : f j = a) : ∃ k, kw_first f n a = some k ∧ k < n ∧ f k = a := by
  cases e : kw_first f n a with
  | some k => exact ⟨k, rfl, kw_first_eq e⟩
  | none =>
    unfold kw_first at e
    have h1 := List.find?_eq_none.mp e j (List.mem_range.mpr hj)
    simp only [decide_eq_true_eq] at h1
    exact absurd h h1
theorem z_ooK {E : zE} (hA : zA E) {i : Nat} (hi : i < 68) : kx_oo (zV E) (E.1.2.1 i) = some ("java/lang/String", [("java/lang/String", "coder", "B", .int 0), ("java/lang/String", "value", "[B", .ref (E.1.2.2.1 i))]) := by
  show kw_oo E.1.1 E.1.2.1 E.1.2.2.1 (E.1.2.1 i) = _
  unfold kw_oo
  rw [kw_first_none (fun j hj => hA.2.1 j hj i hi)]
  obtain ⟨k, h1, h2, h3⟩ := kw_first_some (f := E.1.2.1) hi rfl
  rw [h1]
  simp only [hA.2.2.1 k h2 i hi h3]
theorem l_getD_ge {l : List Int32} {j : Nat} (h : l.length ≤ j) : l.getD j 0 = 0 := by
  rw [List.getD_eq_getElem?_getD, List.getElem?_eq_none h]
  rfl
theorem z_roK {E : zE} (hA : zA E) {i : Nat} (hi : i < 68) : kx_ro (zV E) (E.1.2.2.1 i) = some (1, kw_sl i, kw_sc i) := by
  show kw_ro E.1.2.2.1 E.1.2.2.2.2.1 E.1.2.2.2.2.2.1 E.1.2.2.2.2.2.2.1 (E.1.2.2.1 i) = _
  unfold kw_ro
  rw [if_neg (hA.2.2.2.2.2.1 i hi)]
  obtain ⟨k, h1, h2, h3⟩ := kw_first_some (f := E.1.2.2.1) hi rfl
  have hk : k < kw_st.length := by rw [kw_lens.2]; exact h2
  have hg : kw_st[k]? = some (kw_st.getD k ("", 0, "", [])) := by
    rw [List.getD_eq_getElem?_getD, List.getElem?_eq_getElem hk]
    rfl
  have hlen := hA.2.2.2.2.1 k h2 i hi h3
  rw [h1]
  simp only [hg]
  have hf : (fun j => (kw_st.getD k ("", 0, "", [])).2.2.2.getD j 0) = kw_sc i := by
    funext j
    unfold kw_sc
    by_cases hj : j < (kw_st.getD i ("", 0, "", [])).2.2.2.length
    · exact hA.2.2.2.1 k h2 i hi h3 j (by rw [hlen]; exact hj) hj
    · rw [l_getD_ge (by omega), l_getD_ge (by omega)]
  rw [hf, hlen]
  rfl
section KZS
variable {V : kx_V} {G : wT} {ob : Nat → Nat} {ot : Nat → Option kx_E} {L : Nat} {M : kx_M} {pc : Nat} {lv : kx_L} {st : List Value} {w : wS} {Q : kx_Rs → wS → Prop}
theorem kz_goo {j a : Nat} {C rf n d : String} {v : Value} {fs : List (String × String × String × Value)} (hd : decode M.2.1 pc = .ok (.getfield j, 3)) (hlt : a < kx_lo V) (hoo : kx_oo V a = some (C, fs)) (hfl : kx_fl V M.1.cls j = some (rf, n, d)) (hf : (fs.find? (fun q => decide (q.1 = rf ∧ q.2.1 = n ∧ q.2.2.1 = d))).map (fun q => q.2.2.2) = some v) (kk : kz V G ob ot L M (pc + 3) lv (v :: st) w Q) : kz V G ob ot L M pc lv (.ref a :: st) w Q := by
  intro F hF X hX
  have hn : X.1 a = none := hX.2.2.1 a hlt
  obtain ⟨q, h1, h2⟩ := Option.map_eq_some_iff.mp hf
  subst h2
  refine ky_step2 hd ?_ ?_ (Nat.zero_add _).symm (Nat.zero_add _).symm (kk F hF X hX)
  · simp only [kx_st1, hn, if_pos]
  · simp only [kx_st2, hn, hoo, hfl, h1, if_pos]
theorem kz_callo {j n a : Nat} {M' : kx_M} {As rest : List Value} {fs : List (String × String × String × Value)} (hd : decode M.2.1 pc = .ok (.invokevirtual j, 3)) (hk : wLk V M.1.cls j M' n) (hm : wMv V M') (hlt : a < kx_lo V) (hoo : kx_oo V a = some (M'.1.cls, fs)) (hst : kx_arg n st = some (As, .ref a :: rest)) (hL : 19 + M'.2.2.1 ≤ L) (hfit : (lg_sl (.ref a :: As)).length ≤ M'.2.2.1) (hcat : kx_cat rest ≤ 8)
    (kk : kz V G ob ot (L - (19 + M'.2.2.1)) M' 0 (lv_args 0 (.ref a :: As)) [] w (fun r w' => wle w w' → match r with
      | .inl v => kz V G ob ot L M (pc + 3) lv (v.toList ++ rest) w' Q
      | .inr E => kzx V G ob ot L M pc lv E w' Q)) : kz V G ob ot L M pc lv st w Q := by
  refine kz_inv hd hL (fun X => rfl) (fun F X => rfl) rfl (fun F X hF hX => ?_) kk
  obtain ⟨k1, k2, k3⟩ := hk
  obtain ⟨m1, m2, m3, m4⟩ := hm
  have hn : X.1 a = none := hX.2.2.1 a hlt
  have hcc : kx_cc V X a = some M'.1.cls := by
    unfold kx_cc
    rw [hn]
    simp only [hoo]
  have hf := wM_fit m1 hF hL hfit hcat
  simp only [kx_inv, k1, k3, hst, hcc, k2, hf, if_pos, m2, m3, m4, and_self, and_true]
theorem kz_aleno {a k n : Nat} {f : Nat → Int32} (hd : decode M.2.1 pc = .ok (.arraylength, 1)) (hlt : a < kx_lo V) (hro : kx_ro V a = some (k, n, f)) (kk : kz V G ob ot L M (pc + 1) lv (.int (Int32.ofNat n) :: st) w Q) : kz V G ob ot L M pc lv (.ref a :: st) w Q := by
  intro F hF X hX
  have hn : X.1 a = none := hX.2.2.1 a hlt
  refine ky_s hd ?_ (kk F hF X hX)
  simp only [kx_st1, hn, hro, if_pos]
theorem kz_baldo {i : Int32} {a k n : Nat} {f : Nat → Int32} (hd : decode M.2.1 pc = .ok (.baload, 1)) (hlt : a < kx_lo V) (hro : kx_ro V a = some (k, n, f)) (ht : (kx_tl V)[k]? = some .byte) (hi : kx_inb i n = true) (kk : kz V G ob ot L M (pc + 1) lv (.int (f i.toNatClampNeg) :: st) w Q) : kz V G ob ot L M pc lv (.int i :: .ref a :: st) w Q := by
  intro F hF X hX
  have hn : X.1 a = none := hX.2.2.1 a hlt
  refine ky_s hd ?_ (kk F hF X hX)
  simp only [kx_st1, hn, hro, if_pos]
  rw [if_pos ⟨ht, hi⟩]
end KZS
theorem zj_fl9 {E : zE} : kx_fl (zV E) "java/lang/String" 9 = some ("java/lang/String", "value", "[B") := (show kt_get kt_flA "java/lang/String" 9 = _ from by decide +kernel)
theorem zj_fl15 {E : zE} : kx_fl (zV E) "java/lang/String" 15 = some ("java/lang/String", "coder", "B") := (show kt_get kt_flA "java/lang/String" 15 = _ from by decide +kernel)
theorem kx_sv_E {E : zE} {r n d : String} : kx_sv (zV E) r n d = kw_sv E.1.1 E.1.2.2.2.1 r n d := rfl
theorem kx_rv_E {E : zE} {own : String} {j : Nat} : kx_rv (zV E) own j = kw_rv E.1.2.1 own j := rfl
theorem kw_sv_in {adE : Nat → Nat} {zr : Nat → Value} {r n d : String} {q : String × String × String × Int32} (h1 : kw_en.findIdx? (fun q => decide (q.1 = r ∧ q.2.1 = n ∧ q.2.2.1 = d)) = none) (h2 : kw_in.find? (fun q => decide (q.1 = r ∧ q.2.1 = n ∧ q.2.2.1 = d)) = some q) : kw_sv adE zr r n d = some (.int q.2.2.2) := by
  unfold kw_sv
  rw [h1]
  simp only [h2]
theorem kw_sv_rf {adE : Nat → Nat} {zr : Nat → Value} {r n d : String} {i : Nat} (h1 : kw_en.findIdx? (fun q => decide (q.1 = r ∧ q.2.1 = n ∧ q.2.2.1 = d)) = none) (h2 : kw_in.find? (fun q => decide (q.1 = r ∧ q.2.1 = n ∧ q.2.2.1 = d)) = none) (h3 : kw_rf.findIdx? (fun q => decide (q.1 = r ∧ q.2.1 = n ∧ q.2.2 = d)) = some i) : kw_sv adE zr r n d = some (zr i) := by
  unfold kw_sv
  rw [h1]
  simp only [h2, h3]
theorem zj_s38 {E : zE} : ∃ r n d, kx_fl (zV E) "java/lang/String" 38 = some (r, n, d) ∧ kx_sv (zV E) r n d = some (.int 1) := ⟨_, _, _, (show kt_get kt_flA "java/lang/String" 38 = some ("java/lang/String", "COMPACT_STRINGS", "Z") from by decide +kernel), kx_sv_E.trans (kw_sv_in (q := ("java/lang/String", "COMPACT_STRINGS", "Z", 1)) (by decide +kernel) (by decide +kernel))⟩
theorem zj_s1053 {E : zE} : ∃ r n d, kx_fl (zV E) "java/lang/String" 1053 = some (r, n, d) ∧ kx_sv (zV E) r n d = some (E.1.2.2.2.1 2) := ⟨_, _, _, (show kt_get kt_flA "java/lang/String" 1053 = some ("jdk/internal/util/Preconditions", "SIOOBE_FORMATTER", "Ljava/util/function/BiFunction;") from by decide +kernel), kx_sv_E.trans (kw_sv_rf (by decide +kernel) (by decide +kernel) (by decide +kernel))⟩
theorem kz_slen {E : zE} {L : Nat} {M : kx_M} {pc : Nat} {lv : kx_L} {st : List Value} {w : wS} {Q : kx_Rs → wS → Prop} {j i : Nat} {x : Option Nat} (hd : decode M.2.1 pc = .ok (.invokevirtual j, 3)) (hk : wLk (zV E) M.1.cls j kt_M627 0) (hL : 120 ≤ L) (hcat : kx_cat st ≤ 8) (ho : zK E x i) (kk : kzE E L M (pc + 3) lv (.int (Int32.ofNat (kw_sl i)) :: st) w Q) : kzE E L M pc lv (va_rf x :: st) w Q := by
  obtain ⟨hA, hi, rfl⟩ := ho
  have hoo := z_ooK hA hi
  have hro := z_roK hA hi
  have hlo : E.1.2.1 i < kx_lo (zV E) := (hA.2.2.2.2.2.2.2.2.1 i hi).1
  have hlv : E.1.2.2.1 i < kx_lo (zV E) := (hA.2.2.2.2.2.2.2.2.1 i hi).2
  refine kz_callo (As := []) (rest := st) hd hk wMv_627 hlo hoo (by unfold kx_arg; simp [va_rf]) (Nat.le_trans (by decide) hL) (Nat.le_of_ble_eq_true rfl) hcat ?_
  refine kz_aload_n (M := kt_M627) (x := E.1.2.1 i) kJ4_length_c0.1 rfl ?_
  refine kz_goo (M := kt_M627) (v := .ref (E.1.2.2.1 i)) kJ4_length_c0.2.1 hlo hoo zj_fl9 (by simp) ?_
  refine kz_aleno (M := kt_M627) kJ4_length_c0.2.2.1 hlv hro ?_
  refine kz_aload_n (M := kt_M627) (x := E.1.2.1 i) kJ4_length_c0.2.2.2.1 rfl ?_
  refine kz_callo (M := kt_M627) (As := []) (rest := [.int (Int32.ofNat (kw_sl i))]) kJ4_length_c0.2.2.2.2.1 wl_J4_335 wMv_625 hlo hoo rfl (Nat.le_sub_of_add_le (Nat.le_trans (by decide) hL)) (Nat.le_of_ble_eq_true rfl) (Nat.le_of_ble_eq_true rfl) ?_
  refine kz_getsE (M := kt_M625) (v := .int 1) kJ4_coder_c0.1 zj_s38 ?_
  refine kz_if_eq (M := kt_M625) kJ4_coder_c0.2.1 (t := 13) rfl (A := False) (B := True) (by decide) (fun h => h.elim) (fun _ => ?_)
  refine kz_aload_n (M := kt_M625) (x := E.1.2.1 i) kJ4_coder_c0.2.2.1 rfl ?_
  refine kz_goo (M := kt_M625) (v := .int 0) kJ4_coder_c0.2.2.2.1 hlo hoo zj_fl15 (by simp) ?_
  refine kz_goto (M := kt_M625) kJ4_coder_c0.2.2.2.2.1 (t := 14) rfl ?_
  refine kz_iret (M := kt_M625) kJ4_coder_c0.2.2.2.2.2.2.1 rfl rfl (fun _ => ?_)
  refine kz_ishr (M := kt_M627) kJ4_length_c0.2.2.2.2.2.1 ?_
  rw [show (Int32.ofNat (kw_sl i)) >>> ((0 : Int32) &&& 31) = Int32.ofNat (kw_sl i) from by simp]
  exact kz_iret (M := kt_M627) kJ4_length_c0.2.2.2.2.2.2.1 rfl rfl (fun _ => kk)
theorem kw_sc_ascii : ∀ i, i < 68 → ∀ k, k < kw_sl i → ((kw_sc i k &&& 255).toUInt32 % 65536).toInt32 = kw_sc i k := by decide +kernel
theorem kw_sc_char : ∀ i, i < 68 → ∀ k, k < kw_sl i → narrow .char (.int (kw_sc i k)) = .int (kw_sc i k) := by decide +kernel
theorem kw_sl_lt : ∀ i, i < 68 → kw_sl i < 1000 := by decide +kernel
theorem kz_sat {E : zE} {L : Nat} {M : kx_M} {pc : Nat} {lv : kx_L} {st : List Value} {w : wS} {Q : kx_Rs → wS → Prop} {j i : Nat} {x : Option Nat} {k : Int32} (hd : decode M.2.1 pc = .ok (.invokevirtual j, 3)) (hk : wLk (zV E) M.1.cls j kt_M623 1) (hL : 120 ≤ L) (hcat : kx_cat st ≤ 8) (ho : zK E x i) (hb : kx_inb k (kw_sl i) = true) (kk : kzE E L M (pc + 3) lv (.int (kw_sc i k.toNatClampNeg) :: st) w Q) : kzE E L M pc lv (.int k :: va_rf x :: st) w Q := by
  obtain ⟨hA, hi, rfl⟩ := ho
  have hoo := z_ooK hA hi
  have hro := z_roK hA hi
  have hlo : E.1.2.1 i < kx_lo (zV E) := (hA.2.2.2.2.2.2.2.2.1 i hi).1
  have hlv : E.1.2.2.1 i < kx_lo (zV E) := (hA.2.2.2.2.2.2.2.2.1 i hi).2
  have hb2 := hb
  unfold kx_inb at hb2
  rw [Bool.and_eq_true, decide_eq_true_eq, decide_eq_true_eq] at hb2
  have hlt1 := kw_sl_lt i hi
  have hk0 : 0 ≤ k.toInt := by
    have := hb2.1
    rw [Int32.lt_iff_toInt_lt] at this
    have e0 : (0 : Int32).toInt = 0 := rfl
    omega
  have hkl : k < Int32.ofNat (kw_sl i) := by
    rw [Int32.lt_iff_toInt_lt]
    have e := nI_toInt (n := kw_sl i) (by omega)
    simp only [nI] at e
    rw [e]
    have h2 := hb2.2
    have : (k.toNatClampNeg : Int) = k.toInt := by
      show ((k.toInt.toNat : Nat) : Int) = _
      omega
    omega
  refine kz_callo (As := [.int k]) (rest := st) hd hk wMv_623 hlo hoo (by unfold kx_arg; simp [va_rf]) (Nat.le_trans (by decide) hL) (Nat.le_of_ble_eq_true rfl) hcat ?_
  refine kz_aload_n (M := kt_M623) (x := E.1.2.1 i) kJ4_charAt_c0.1 rfl ?_
  refine kz_callo (M := kt_M623) (As := []) (rest := []) kJ4_charAt_c0.2.1 wl_J4_492 wMv_626 hlo hoo rfl (Nat.le_sub_of_add_le (Nat.le_trans (by decide) hL)) (Nat.le_of_ble_eq_true rfl) (Nat.le_of_ble_eq_true rfl) ?_
  refine kz_getsE (M := kt_M626) (v := .int 1) kJ4_isLatin1_c0.1 zj_s38 ?_
  refine kz_if_eq (M := kt_M626) kJ4_isLatin1_c0.2.1 (t := 17) rfl (A := False) (B := True) (by decide) (fun h => h.elim) (fun _ => ?_)
  refine kz_aload_n (M := kt_M626) (x := E.1.2.1 i) kJ4_isLatin1_c0.2.2.1 rfl ?_
  refine kz_goo (M := kt_M626) (v := .int 0) kJ4_isLatin1_c0.2.2.2.1 hlo hoo zj_fl15 (by simp) ?_
  refine kz_if_ne (M := kt_M626) kJ4_isLatin1_c0.2.2.2.2.1 (t := 17) rfl (A := False) (B := True) (by decide) (fun h => h.elim) (fun _ => ?_)
  refine kz_ic (M := kt_M626) 1 kJ4_isLatin1_c0.2.2.2.2.2.1 rfl ?_
  refine kz_goto (M := kt_M626) kJ4_isLatin1_c0.2.2.2.2.2.2.1 (t := 18) rfl ?_
  refine kz_iret (M := kt_M626) kJ4_isLatin1_c1.1 rfl rfl (fun _ => ?_)
  refine kz_if_eq (M := kt_M623) kJ4_charAt_c0.2.2.1 (t := 16) rfl (A := False) (B := True) (by decide) (fun h => h.elim) (fun _ => ?_)
  refine kz_aload_n (M := kt_M623) (x := E.1.2.1 i) kJ4_charAt_c0.2.2.2.1 rfl ?_
  refine kz_goo (M := kt_M623) (v := .ref (E.1.2.2.1 i)) kJ4_charAt_c0.2.2.2.2.1 hlo hoo zj_fl9 (by simp) ?_
  refine kz_iload_n (M := kt_M623) (x := k) kJ4_charAt_c0.2.2.2.2.2.1 rfl ?_
  refine kz_calls (M := kt_M623) (As := [.ref (E.1.2.2.1 i), .int k]) (rest := []) kJ4_charAt_c0.2.2.2.2.2.2.1 wl_J4_495 wMs_628 rfl (Nat.le_sub_of_add_le (Nat.le_trans (by decide) hL)) (Nat.le_of_ble_eq_true rfl) (Nat.le_of_ble_eq_true rfl) ?_
  refine kz_iload_n (M := kt_M628) (x := k) kJ5_charAt_c0.1 rfl ?_
  refine kz_aload_n (M := kt_M628) (x := E.1.2.2.1 i) kJ5_charAt_c0.2.1 rfl ?_
  refine kz_aleno (M := kt_M628) kJ5_charAt_c0.2.2.1 hlv hro ?_
  refine kz_calls (M := kt_M628) (As := [.int k, .int (Int32.ofNat (kw_sl i))]) (rest := []) kJ5_charAt_c0.2.2.2.1 wl_J5_9 wMs_624 rfl (Nat.le_sub_of_add_le (Nat.le_sub_of_add_le (Nat.le_trans (by decide) hL))) (Nat.le_of_ble_eq_true rfl) (Nat.le_of_ble_eq_true rfl) ?_
  refine kz_iload_n (M := kt_M624) (x := k) kJ4_checkIndex_c0.1 rfl ?_
  refine kz_iload_n (M := kt_M624) (x := Int32.ofNat (kw_sl i)) kJ4_checkIndex_c0.2.1 rfl ?_
  refine kz_getsE (M := kt_M624) (v := E.1.2.2.2.1 2) kJ4_checkIndex_c0.2.2.1 zj_s1053 ?_
  have hzr : ∃ y : Option Nat, E.1.2.2.2.1 2 = va_rf y := by
    rcases hA.2.2.2.2.2.2.2.2.2 2 with h | ⟨t, h⟩
    · exact ⟨none, h⟩
    · exact ⟨some t, h⟩
  obtain ⟨y, hy⟩ := hzr
  rw [hy]
  refine kz_calls (M := kt_M624) (As := [.int k, .int (Int32.ofNat (kw_sl i)), va_rf y]) (rest := []) kJ4_checkIndex_c0.2.2.2.1 wl_J4_1059 wMs_636 rfl (Nat.le_sub_of_add_le (Nat.le_sub_of_add_le (Nat.le_sub_of_add_le (Nat.le_trans (by decide) hL)))) (by simp [lg_sl, w_cat, z_ci, z_cr, z_cl, z_cn, kt_M636]) (Nat.le_of_ble_eq_true rfl) ?_
  refine kz_iload_n (M := kt_M636) (x := k) kJ6_checkIndex_c0.1 rfl ?_
  refine kz_if_lt (M := kt_M636) kJ6_checkIndex_c0.2.1 (t := 9) rfl (A := False) (B := True) (by rw [if_neg hb2.1]; trivial) (fun h => h.elim) (fun _ => ?_)
  refine kz_iload_n (M := kt_M636) (x := k) kJ6_checkIndex_c0.2.2.1 rfl ?_
  refine kz_iload_n (M := kt_M636) (x := Int32.ofNat (kw_sl i)) kJ6_checkIndex_c0.2.2.2.1 rfl ?_
  refine kz_icmp_lt (M := kt_M636) kJ6_checkIndex_c0.2.2.2.2.1 (t := 16) rfl (A := True) (B := False) (by rw [if_pos hkl]; trivial) (fun _ => ?_) (fun h => h.elim)
  refine kz_iload_n (M := kt_M636) (x := k) kJ6_checkIndex_c1.2.2.1 rfl ?_
  refine kz_iret (M := kt_M636) kJ6_checkIndex_c1.2.2.2.1 rfl rfl (fun _ => ?_)
  refine kz_pop (M := kt_M624) kJ4_checkIndex_c0.2.2.2.2.1 rfl ?_
  refine kz_ret (M := kt_M624) kJ4_checkIndex_c0.2.2.2.2.2.1 rfl (fun _ => ?_)
  refine kz_aload_n (M := kt_M628) (x := E.1.2.2.1 i) kJ5_charAt_c0.2.2.2.2.1 rfl ?_
  refine kz_iload_n (M := kt_M628) (x := k) kJ5_charAt_c0.2.2.2.2.2.1 rfl ?_
  refine kz_baldo (M := kt_M628) kJ5_charAt_c0.2.2.2.2.2.2.1 hlv hro rfl hb ?_
  refine kz_si (M := kt_M628) 255 kJ5_charAt_c0.2.2.2.2.2.2.2.1 rfl ?_
  refine kz_iand (M := kt_M628) kJ5_charAt_c1.1 ?_
  refine kz_i2c (M := kt_M628) kJ5_charAt_c1.2.1 ?_
  rw [kw_sc_ascii i hi _ hb2.2]
  have hnr := kw_sc_char i hi _ hb2.2
  refine kz_iret (M := kt_M628) kJ5_charAt_c1.2.2.1 rfl hnr (fun _ => ?_)
  exact kz_iret (M := kt_M623) kJ4_charAt_c0.2.2.2.2.2.2.2.1 rfl hnr (fun _ => kk)
