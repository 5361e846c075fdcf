/-! ===== TOKENS, part 16: the twin's numbers and signs of strings ===== -/
def dec3 (T : Nat → Int) (n p : Nat) : Tk × Nat := if 10 < nd isD T n p - p ∨ 2147483647 < dvl T p (nd isD T n p - p) ∨ isN (T (nd isD T n p)) = true then (tBad, p) else ((2, dvl T p (nd isD T n p - p), []), nd isD T n p)
def hex3 (T : Nat → Int) (n p : Nat) : Tk × Nat := if nd isH T n (p + 1) < p + 2 ∨ p + 9 < nd isH T n (p + 1) ∨ isN (T (nd isH T n (p + 1))) = true then (tBad, p) else ((2, (hvl T (p + 1) (nd isH T n (p + 1) - (p + 1))).toInt, []), nd isH T n (p + 1))
/-- a number, or none -/
def NU3 (w : wS) (t : Tk × Nat) (r : kx_Rs) (w' : wS) : Prop := frm (pk 12 [23, 24]) w w' ∧ ((t.1 = tBad ∧ r = .inl (some (.int 76))) ∨ (t.1.1 = 2 ∧ r = .inl (some (.int 71)) ∧ w_i w' 12 0 24 = i_ t.1.2.1 ∧ w_i w' 12 0 23 = i_ t.2))
section TM
variable {E : zE} {L : Nat} {w : wS} {T : Nat → Int} {n p k a m lm : Nat}
/-- a call on the way whose end is known -/
theorem eS_k {P : kx_Rs → wS → Prop} {M : kx_M} {As : List Value} {K1 : (kx_Rs → wS → Prop) → Int32 → wS → Prop} {K2 : (kx_Rs → wS → Prop) → String → wS → Prop} {v : Int32} (h : ∀ Q : kx_Rs → wS → Prop, Q (.inl (some (.int v))) w → zw E L M As w Q) (k : eS (fun Q => K1 Q v w) P) : eS (fun Q => zw E L M As w (wk1 (fun v2 w1 => wle w w1 → K1 Q v2 w1) (K2 Q))) P := by
  refine eS_c (Kc := fun Q => wk1 (fun v2 w1 => wle w w1 → K1 Q v2 w1) (K2 Q)) (fun Q hq => h Q hq) (fun hle => ?_)
  simp only [wk1]
  exact eS_l (fun Q a => fun _ => a) k
theorem t_decimal (hL : 200 ≤ L) (hT : TT E w T n) (hp : w_i w 12 0 23 = i_ p) (hpn : p ≤ n) : eW w (fun Q => zw E L kt_M382 [.ref (w_adr E.2.1 12 0)] w Q) (NU3 w (dec3 T n p)) := by
  obtain ⟨⟨hn, hx10, hxr⟩, hA⟩ := hT.1
  have hble : nd isD T n p ≤ n := nd_le rfl hpn
  have hge : p ≤ nd isD T n p := nd_ge rfl
  have hdig : ∀ k, p + k ≤ nd isD T n p → 0 ≤ dvl T p k ∧ dvl T p k < ((10 ^ k : Nat) : Int) := fun k hk => dvl_rng (fun j hj => nd_in (p := isD) (T := T) (n := n) (a := p) rfl (p + j) (by omega) (by omega))
  have h10d : ∀ k, p + k ≤ nd isD T n p → k ≤ 10 → 0 ≤ dvl T p k ∧ dvl T p k < 10000000000 := fun k hk hk2 => by
    have := hdig k hk
    have h3 : 10 ^ k ≤ 10 ^ 10 := Nat.pow_le_pow_right (by decide) hk2
    have h4 : 10 ^ 10 = 10000000000 := by decide
    omega
  refine eW_of (A := fun Q => zb_X13_decimal_p0 E L Q w) (fun Q h => zt_X13_decimal_p0 (by omega) h) ?_
  simp only [zb_X13_decimal_p0]
  have loop : ∀ d k w', k + d = nd isD T n p - p → frm (pk 12 [23]) w w' → w_i w' 12 0 23 = i_ (p + k : Nat) → eS (fun Q => zL_X13_decimal_p4 E L Q (l_ (dvl T p (if k ≤ 10 then k else 10))) (i_ k) w') (fun r w2 => wle w w2 → NU3 w (dec3 T n p) r w2) := by
    intro d
    induction d with
    | zero =>
      intro k w' hk hf hat
      have hT' := hT.frm hf (by decide)
      have hb : nd isD T n p = p + k := by omega
      have hr := hxr (p + k)
      have hstop : isD (T (p + k)) = false := by
        rw [← hb]
        exact nd_at (fun q hq => by rw [hx10 q hq]; exact isD_10) rfl
      refine eS_l (fun Q h => zt_X13_decimal_p4 (by omega) h) ?_
      simp only [zb_X13_decimal_p4, zb_X13_decimal_p83]
      refine eS_k (fun Q hq => t_here0 (by omega) hT' hat (by omega) hq) ?_
      refine eS_k (fun Q hq => t_isDigit (by omega) hq) ?_
      rw [i_toInt (by omega), hstop, if_pos_fun (by decide)]
      unfold dec3 at *
      rw [hb, show p + k - p = k by omega]
      have hv := h10d (if k ≤ 10 then k else 10) (by split <;> omega) (by split <;> omega)
      have hbad : (10 < k ∨ 2147483647 < dvl T p k ∨ isN (T (p + k)) = true) → ∀ w2, frm (pk 12 [23, 24]) w w2 → eS (fun Q => Q (.inl (some (.int 76))) w2) (fun r w2 => wle w w2 → NU3 w (if 10 < k ∨ 2147483647 < dvl T p k ∨ isN (T (p + k)) = true then (tBad, p) else ((2, dvl T p k, []), p + k)) r w2) := by
        intro hc w2 hf2
        refine eS_ret (fun _ => ⟨hf2, .inl ⟨by rw [if_pos hc], rfl⟩⟩)
      by_cases hk10 : 10 < k
      · rw [if_pos_fun (by rw [show (10 : Int32) = i_ 10 from rfl]; exact (i_lt (by omega) (by omega)).mpr (by omega))]
        exact hbad (.inl hk10) w' (hf.sub (by decide))
      rw [if_neg_fun (by rw [show (10 : Int32) = i_ 10 from rfl]; exact fun q => hk10 (by have := (i_lt (by omega) (by omega)).mp q; omega))]
      rw [if_pos (show k ≤ 10 by omega)] at hv ⊢
      by_cases hbig : 2147483647 < dvl T p k
      · rw [if_pos_fun (by rw [show (2147483647 : Int64) = l_ 2147483647 from rfl]; exact (l_cmp (by omega) (by omega)).mpr hbig)]
        exact hbad (.inr (.inl hbig)) w' (hf.sub (by decide))
      rw [if_neg_fun (by rw [show (2147483647 : Int64) = l_ 2147483647 from rfl]; exact fun q => hbig ((l_cmp (by omega) (by omega)).mp q))]
      refine eS_k (fun Q hq => t_here0 (by omega) hT' hat (by omega) hq) ?_
      refine eS_k (fun Q hq => t_goesOn (by omega) hq) ?_
      rw [i_toInt (by omega), l_int]
      cases hN : isN (T (p + k)) with
      | true =>
        rw [if_neg_fun (by decide)]
        rw [hN] at hbad
        exact hbad (.inr (.inr rfl)) w' (hf.sub (by decide))
      | false =>
        rw [if_pos_fun (by decide)]
        have hgood : ¬ (10 < k ∨ 2147483647 < dvl T p k ∨ (false : Bool) = true) := by
          rintro (h | h | h)
          · exact hk10 h
          · exact hbig h
          · cases h
        refine eS_ret (fun _ => ⟨(hf.sub (by decide)).tr (frm_i rfl), .inr ⟨by rw [if_neg hgood], rfl, ?_, ?_⟩⟩)
        · rw [if_neg hgood]
          simp only [Rii, Rgi, Rpi, Rai, Rbi, Rri, Rni, Rdi, Roi, Rti, Rzi, RCi, RSi]
          simp
        · rw [if_neg hgood]
          simp only [Rii, Rgi, Rpi, Rai, Rbi, Rri, Rni, Rdi, Roi, Rti, Rzi, RCi, RSi]
          rw [if_neg (by decide)]
          exact hat
    | succ d ih =>
      intro k w' hk hf hat
      have hT' := hT.frm hf (by decide)
      have hr := hxr (p + k)
      have hin := nd_in (p := isD) (T := T) (n := n) (a := p) rfl (p + k) (by omega) (by omega)
      have hv := h10d (if k ≤ 10 then k else 10) (by split <;> omega) (by split <;> omega)
      refine eS_l (fun Q h => zt_X13_decimal_p4 (by omega) h) ?_
      simp only [zb_X13_decimal_p4, zb_X13_decimal_p44]
      refine eS_k (fun Q hq => t_here0 (by omega) hT' hat (by omega) hq) ?_
      refine eS_k (fun Q hq => t_isDigit (by omega) hq) ?_
      rw [i_toInt (by omega), hin, if_neg_fun (by decide)]
      have hnext : ∀ v, v = l_ (dvl T p (if k + 1 ≤ 10 then k + 1 else 10)) → eS (fun Q => zL_X13_decimal_p4 E L Q v (i_ k + 1) (ws_i w' 12 0 23 (w_i w' 12 0 23 + 1))) (fun r w2 => wle w w2 → NU3 w (dec3 T n p) r w2) := by
        intro v hv2
        subst hv2
        rw [i_1, i_add, cN1]
        refine ih (k + 1) _ (by omega) (hf.tr (frm_i rfl)) ?_
        simp only [Rii, Rgi, Rpi, Rai, Rbi, Rri, Rni, Rdi, Roi, Rti, Rzi, RCi, RSi]
        rw [if_pos (by decide), hat, i_add, cN1]
        rfl
      by_cases hk10 : 10 < k + 1
      · rw [if_pos_fun (by rw [i_1, i_add, show (10 : Int32) = i_ 10 from rfl]; exact (i_lt (by omega) (by omega)).mpr (by omega))]
        exact hnext _ (by rw [if_neg (show ¬ k + 1 ≤ 10 by omega)]; split
                          · rw [show k = 10 by omega]
                          · rfl)
      · rw [if_neg_fun (by rw [i_1, i_add, show (10 : Int32) = i_ 10 from rfl]; exact fun q => hk10 (by have := (i_lt (by omega) (by omega)).mp q; omega))]
        refine eS_k (fun Q hq => t_here0 (by omega) hT' hat (by omega) hq) ?_
        refine hnext _ ?_
        rw [if_pos (show k + 1 ≤ 10 by omega), if_pos (show k ≤ 10 by omega), i_long (by omega), show (10 : Int64) = l_ 10 from rfl, show (48 : Int64) = l_ 48 from rfl, l_mul, l_add, l_sub]
        rfl
  exact loop (nd isD T n p - p) 0 w (by omega) frm.rf hp
theorem t_sixteen (hL : 200 ≤ L) (hT : TT E w T n) (hp : w_i w 12 0 23 = i_ p) (hpn : p + 1 ≤ n) : eW w (fun Q => zw E L kt_M537 [.ref (w_adr E.2.1 12 0)] w Q) (NU3 w (hex3 T n p)) := by
  obtain ⟨⟨hn, hx10, hxr⟩, hA⟩ := hT.1
  have hble : nd isH T n (p + 1) ≤ n := nd_le rfl hpn
  have hge : p + 1 ≤ nd isH T n (p + 1) := nd_ge rfl
  refine eW_of (A := fun Q => zb_X13_sixteen_p0 E L Q w) (fun Q h => zt_X13_sixteen_p0 (by omega) h) ?_
  simp only [zb_X13_sixteen_p0]
  have loop : ∀ d k w', k + d = nd isH T n (p + 1) - (p + 1) → frm (pk 12 [23]) w w' → w_i w' 12 0 23 = i_ (p + 1 + k : Nat) → eS (fun Q => zL_X13_sixteen_p14 E L Q (hvl T (p + 1) k) (i_ k) w') (fun r w2 => wle w w2 → NU3 w (hex3 T n p) r w2) := by
    intro d
    induction d with
    | zero =>
      intro k w' hk hf hat
      have hT' := hT.frm hf (by decide)
      have hb : nd isH T n (p + 1) = p + 1 + k := by omega
      have hr := hxr (p + 1 + k)
      have hstop : isH (T (p + 1 + k)) = false := by
        rw [← hb]
        exact nd_at (fun q hq => by rw [hx10 q hq]; exact isH_10) rfl
      have hstd : isD (T (p + 1 + k)) = false ∧ ¬ (65 ≤ T (p + 1 + k) ∧ T (p + 1 + k) ≤ 70) := by
        unfold isH at hstop
        simp only [Bool.or_eq_false_iff, Bool.and_eq_false_iff, decide_eq_false_iff_not] at hstop
        exact ⟨hstop.1, by omega⟩
      have hend : eS (fun Q => zb_X13_sixteen_p99 E L Q (hvl T (p + 1) k) (i_ k) w') (fun r w2 => wle w w2 → NU3 w (hex3 T n p) r w2) := by
        simp only [zb_X13_sixteen_p99, zb_X13_sixteen_p120]
        unfold hex3
        rw [hb, show p + 1 + k - (p + 1) = k by omega]
        have hbad : (p + 1 + k < p + 2 ∨ p + 9 < p + 1 + k ∨ isN (T (p + 1 + k)) = true) → ∀ w2, frm (pk 12 [23, 24]) w w2 → eS (fun Q => Q (.inl (some (.int 76))) w2) (fun r w2 => wle w w2 → NU3 w (if p + 1 + k < p + 2 ∨ p + 9 < p + 1 + k ∨ isN (T (p + 1 + k)) = true then (tBad, p) else ((2, (hvl T (p + 1) k).toInt, []), p + 1 + k)) r w2) := by
          intro hc w2 hf2
          refine eS_ret (fun _ => ⟨hf2, .inl ⟨by rw [if_pos hc], rfl⟩⟩)
        by_cases hk0 : k = 0
        · rw [if_pos_fun (by rw [hk0]; rfl)]
          exact hbad (.inl (by omega)) w' (hf.sub (by decide))
        rw [if_neg_fun (fun q => hk0 (by rw [i_0] at q; have := (i_eq (by omega) (by omega)).mp q; omega))]
        by_cases hk8 : 8 < k
        · rw [if_pos_fun (by rw [show (8 : Int32) = i_ 8 from rfl]; exact (i_lt (by omega) (by omega)).mpr (by omega))]
          exact hbad (.inr (.inl (by omega))) w' (hf.sub (by decide))
        rw [if_neg_fun (by rw [show (8 : Int32) = i_ 8 from rfl]; exact fun q => hk8 (by have := (i_lt (by omega) (by omega)).mp q; omega))]
        refine eS_k (fun Q hq => t_here0 (by omega) hT' hat (by omega) hq) ?_
        refine eS_k (fun Q hq => t_goesOn (by omega) hq) ?_
        rw [i_toInt (by omega)]
        cases hN : isN (T (p + 1 + k)) with
        | true =>
          rw [if_neg_fun (by decide)]
          rw [hN] at hbad
          exact hbad (.inr (.inr rfl)) w' (hf.sub (by decide))
        | false =>
          rw [if_pos_fun (by decide)]
          have hgood : ¬ (p + 1 + k < p + 2 ∨ p + 9 < p + 1 + k ∨ (false : Bool) = true) := by
            rintro (h | h | h)
            · omega
            · omega
            · cases h
          refine eS_ret (fun _ => ⟨(hf.sub (by decide)).tr (frm_i rfl), .inr ⟨by rw [if_neg hgood], rfl, ?_, ?_⟩⟩)
          · rw [if_neg hgood]
            simp only [Rii, Rgi, Rpi, Rai, Rbi, Rri, Rni, Rdi, Roi, Rti, Rzi, RCi, RSi]
            rw [if_pos (by decide)]
            exact i_of _
          · rw [if_neg hgood]
            simp only [Rii, Rgi, Rpi, Rai, Rbi, Rri, Rni, Rdi, Roi, Rti, Rzi, RCi, RSi]
            rw [if_neg (by decide)]
            exact hat
      refine eS_l (fun Q h => zt_X13_sixteen_p14 (by omega) h) ?_
      simp only [zb_X13_sixteen_p14]
      refine eS_k (fun Q hq => t_here0 (by omega) hT' hat (by omega) hq) ?_
      refine eS_k (fun Q hq => t_isDigit (by omega) hq) ?_
      rw [i_toInt (by omega), hstd.1, if_neg_fun (by decide)]
      refine eS_k (fun Q hq => t_here0 (by omega) hT' hat (by omega) hq) ?_
      by_cases h65 : T (p + 1 + k) < 65
      · rw [if_pos_fun (by rw [show (65 : Int32) = i_ 65 from rfl]; exact (i_lt (by omega) (by omega)).mpr (by omega))]
        exact hend
      rw [if_neg_fun (by rw [show (65 : Int32) = i_ 65 from rfl]; exact fun q => h65 ((i_lt (by omega) (by omega)).mp q))]
      refine eS_k (fun Q hq => t_here0 (by omega) hT' hat (by omega) hq) ?_
      rw [if_pos_fun (by rw [show (70 : Int32) = i_ 70 from rfl]; exact (i_lt (by omega) (by omega)).mpr (by omega))]
      exact hend
    | succ d ih =>
      intro k w' hk hf hat
      have hT' := hT.frm hf (by decide)
      have hr := hxr (p + 1 + k)
      have hin := nd_in (p := isH) (T := T) (n := n) (a := p + 1) rfl (p + 1 + k) (by omega) (by omega)
      have hnext : eS (fun Q => zL_X13_sixteen_p14 E L Q (hvl T (p + 1) (k + 1)) (i_ k + 1) (ws_i w' 12 0 23 (w_i w' 12 0 23 + 1))) (fun r w2 => wle w w2 → NU3 w (hex3 T n p) r w2) := by
        rw [i_1, i_add, cN1]
        refine ih (k + 1) _ (by omega) (hf.tr (frm_i rfl)) ?_
        simp only [Rii, Rgi, Rpi, Rai, Rbi, Rri, Rni, Rdi, Roi, Rti, Rzi, RCi, RSi]
        rw [if_pos (by decide), hat, i_add, cN1]
        rfl
      have hgo : eS (fun Q => zb_X13_sixteen_p45 E L Q (hvl T (p + 1) k) (i_ k) w') (fun r w2 => wle w w2 → NU3 w (hex3 T n p) r w2) := by
        simp only [zb_X13_sixteen_p45, zb_X13_sixteen_p84]
        refine eS_k (fun Q hq => t_here0 (by omega) hT' hat (by omega) hq) ?_
        refine eS_k (fun Q hq => t_isDigit (by omega) hq) ?_
        rw [i_toInt (by omega)]
        cases hd : isD (T (p + 1 + k)) with
        | true =>
          rw [if_neg_fun (by decide)]
          refine eS_k (fun Q hq => t_here0 (by omega) hT' hat (by omega) hq) ?_
          rw [show i_ (T (p + 1 + k)) - 48 = i_ (hx (T (p + 1 + k))) by unfold hx; rw [hd, if_pos rfl, show (48 : Int32) = i_ 48 from rfl, i_sub]]
          exact hnext
        | false =>
          rw [if_pos_fun (by decide)]
          refine eS_k (fun Q hq => t_here0 (by omega) hT' hat (by omega) hq) ?_
          rw [show i_ (T (p + 1 + k)) - 65 + 10 = i_ (hx (T (p + 1 + k))) by unfold hx; rw [hd, if_neg (by decide), show (65 : Int32) = i_ 65 from rfl, show (10 : Int32) = i_ 10 from rfl, i_sub, i_add]; congr 1; omega]
          exact hnext
      refine eS_l (fun Q h => zt_X13_sixteen_p14 (by omega) h) ?_
      simp only [zb_X13_sixteen_p14]
      refine eS_k (fun Q hq => t_here0 (by omega) hT' hat (by omega) hq) ?_
      refine eS_k (fun Q hq => t_isDigit (by omega) hq) ?_
      rw [i_toInt (by omega)]
      cases hd : isD (T (p + 1 + k)) with
      | true =>
        rw [if_pos_fun (by decide)]
        exact hgo
      | false =>
        have h6570 : 65 ≤ T (p + 1 + k) ∧ T (p + 1 + k) ≤ 70 := by
          unfold isH at hin
          rw [hd] at hin
          simpa using hin
        rw [if_neg_fun (by decide)]
        refine eS_k (fun Q hq => t_here0 (by omega) hT' hat (by omega) hq) ?_
        rw [if_neg_fun (by rw [show (65 : Int32) = i_ 65 from rfl]; exact fun q => by have := (i_lt (by omega) (by omega)).mp q; omega)]
        refine eS_k (fun Q hq => t_here0 (by omega) hT' hat (by omega) hq) ?_
        rw [if_neg_fun (by rw [show (70 : Int32) = i_ 70 from rfl]; exact fun q => by have := (i_lt (by omega) (by omega)).mp q; omega)]
        exact hgo
  refine loop (nd isH T n (p + 1) - (p + 1)) 0 _ (by omega) (frm_i rfl) ?_
  simp only [Rii, Rgi, Rpi, Rai, Rbi, Rri, Rni, Rdi, Roi, Rti, Rzi, RCi, RSi]
  rw [if_pos (by decide), hp, i_1, i_add, cN1]
/-- a sign of a string in the twin -/
def SG3 (w : wS) (T : Nat → Int) (p : Nat) (r : kx_Rs) (w' : wS) : Prop := frm (pk 12 [23, 24]) w w' ∧ ((sg T p = none ∧ r = .inl (some (.int 0))) ∨ ∃ v p', sg T p = some (v, p') ∧ r = .inl (some (.int 1)) ∧ w_i w' 12 0 24 = i_ v ∧ w_i w' 12 0 23 = i_ (p' : Nat))
theorem t_oneSign (hL : 100 ≤ L) (hT : TT E w T n) (hp : w_i w 12 0 23 = i_ p) (hpn : p ≤ n) : eW w (fun Q => zw E L kt_M495 [.ref (w_adr E.2.1 12 0)] w Q) (SG3 w T p) := by
  obtain ⟨⟨hn, hx10, hxr⟩, hA⟩ := hT.1
  have hr := hxr p
  have hr1 := hxr (p + 1)
  refine eW_of (A := fun Q => zb_X13_oneSign_p0 E L Q w) (fun Q h => zt_X13_oneSign_p0 (by omega) h) ?_
  simp only [zb_X13_oneSign_p0, zb_X13_oneSign_p30, zb_X13_oneSign_p123]
  refine eS_k (fun Q hq => t_here0 (by omega) hT hp (by omega) hq) ?_
  have hno : sg T p = none → ∀ w2, frm (pk 12 [23, 24]) w w2 → eS (fun Q => Q (.inl (some (.int 0))) w2) (fun r w2 => wle w w2 → SG3 w T p r w2) := fun h w2 hf => eS_ret (fun _ => ⟨hf, .inl ⟨h, rfl⟩⟩)
  simp only [show (32 : Int32) = i_ 32 from rfl, show (126 : Int32) = i_ 126 from rfl, show (39 : Int32) = i_ 39 from rfl, show (34 : Int32) = i_ 34 from rfl, show (42 : Int32) = i_ 42 from rfl, i_ltk (show -1000 ≤ T p ∧ T p ≤ 1000 by omega) (show (-1000 : Int) ≤ 32 by decide) (by decide), i_kl (show -1000 ≤ T p ∧ T p ≤ 1000 by omega) (show (-1000 : Int) ≤ 126 by decide) (by decide), i_eqk (show -1000 ≤ T p ∧ T p ≤ 1000 by omega) (show (-1000 : Int) ≤ 39 by decide) (by decide), i_eqk (show -1000 ≤ T p ∧ T p ≤ 1000 by omega) (show (-1000 : Int) ≤ 34 by decide) (by decide), i_eqk (show -1000 ≤ T p ∧ T p ≤ 1000 by omega) (show (-1000 : Int) ≤ 42 by decide) (by decide)]
  by_cases a1 : T p < 32
  · rw [if_pos_fun a1]
    exact hno (by unfold sg; rw [if_neg (by omega), if_pos (.inl a1)]) w frm.rf
  rw [if_neg_fun a1]
  by_cases a2 : 126 < T p
  · rw [if_pos_fun a2]
    exact hno (by unfold sg; rw [if_neg (by omega), if_pos (.inr (.inl a2))]) w frm.rf
  rw [if_neg_fun a2]
  by_cases a3 : T p = 39
  · rw [if_pos_fun a3]
    exact hno (by unfold sg; rw [if_neg (by omega), if_pos (.inr (.inr (.inl a3)))]) w frm.rf
  rw [if_neg_fun a3]
  by_cases a4 : T p = 34
  · rw [if_neg_fun (fun q => q a4)]
    exact hno (by unfold sg; rw [if_neg (by omega), if_pos (.inr (.inr (.inr a4)))]) w frm.rf
  rw [if_pos_fun a4]
  have hf1 : frm (pk 12 [23, 24]) w (ws_i (ws_i w 12 0 23 (w_i w 12 0 23 + 1)) 12 0 24 (i_ (T p))) := (frm_i rfl).tr (frm_i rfl)
  have hat : w_i (ws_i (ws_i w 12 0 23 (w_i w 12 0 23 + 1)) 12 0 24 (i_ (T p))) 12 0 23 = i_ (p + 1 : Nat) := by
    simp only [Rii, Rgi, Rpi, Rai, Rbi, Rri, Rni, Rdi, Roi, Rti, Rzi, RCi, RSi]
    rw [if_neg (by decide), if_pos (by decide), hp, i_1, i_add, cN1]
  by_cases a5 : T p = 42
  · rw [if_pos_fun a5]
    refine eS_k (fun Q hq => t_here0 (by omega) (hT.frm hf1 (by decide)) hat (by omega) hq) ?_
    have hf2 : frm (pk 12 [23, 24]) w (ws_i (ws_i (ws_i w 12 0 23 (w_i w 12 0 23 + 1)) 12 0 24 (i_ (T p))) 12 0 23 (w_i (ws_i (ws_i w 12 0 23 (w_i w 12 0 23 + 1)) 12 0 24 (i_ (T p))) 12 0 23 + 1)) := hf1.tr (frm_i rfl)
    have hok : ∀ x v, x = i_ v → sg T p = some (v, p + 2) → eS (fun Q => zb_X13_oneSign_p128 E L Q x (ws_i (ws_i (ws_i w 12 0 23 (w_i w 12 0 23 + 1)) 12 0 24 (i_ (T p))) 12 0 23 (w_i (ws_i (ws_i w 12 0 23 (w_i w 12 0 23 + 1)) 12 0 24 (i_ (T p))) 12 0 23 + 1))) (fun r w2 => wle w w2 → SG3 w T p r w2) := by
      intro x v hx hv
      subst hx
      simp only [zb_X13_oneSign_p128, zb_X13_oneSign_p143]
      have := sg_v hv
      rw [if_neg_fun (fun q => by rw [i_0] at q; have := (i_lt (by omega) (by omega)).mp q; omega)]
      refine eS_and (.inr (by trivial)) ?_
      refine eS_ret (fun _ => ⟨hf2.tr (frm_i rfl), .inr ⟨v, p + 2, hv, rfl, ?_, ?_⟩⟩)
      · simp only [Rii, Rgi, Rpi, Rai, Rbi, Rri, Rni, Rdi, Roi, Rti, Rzi, RCi, RSi]
        rw [if_pos (by decide)]
      · rw [Rii, if_neg (by decide), Rii, if_pos (by decide), hat, i_1, i_add, cN1]
    simp only [show (110 : Int32) = i_ 110 from rfl, show (116 : Int32) = i_ 116 from rfl, show (115 : Int32) = i_ 115 from rfl, i_eqk (show -1000 ≤ T (p + 1) ∧ T (p + 1) ≤ 1000 by omega) (show (-1000 : Int) ≤ 110 by decide) (by decide), i_eqk (show -1000 ≤ T (p + 1) ∧ T (p + 1) ≤ 1000 by omega) (show (-1000 : Int) ≤ 116 by decide) (by decide), i_eqk (show -1000 ≤ T (p + 1) ∧ T (p + 1) ≤ 1000 by omega) (show (-1000 : Int) ≤ 115 by decide) (by decide), i_eqk (show -1000 ≤ T (p + 1) ∧ T (p + 1) ≤ 1000 by omega) (show (-1000 : Int) ≤ 39 by decide) (by decide), i_eqk (show -1000 ≤ T (p + 1) ∧ T (p + 1) ≤ 1000 by omega) (show (-1000 : Int) ≤ 34 by decide) (by decide), i_eqk (show -1000 ≤ T (p + 1) ∧ T (p + 1) ≤ 1000 by omega) (show (-1000 : Int) ≤ 42 by decide) (by decide)]
    by_cases b1 : T (p + 1) = 110
    · rw [if_neg_fun (fun q => q b1)]
      exact hok _ 10 rfl (by unfold sg; rw [if_pos a5, if_pos b1])
    rw [if_pos_fun b1]
    by_cases b2 : T (p + 1) = 116
    · rw [if_neg_fun (fun q => q b2)]
      exact hok _ 9 rfl (by unfold sg; rw [if_pos a5, if_neg b1, if_pos b2])
    rw [if_pos_fun b2]
    by_cases b3 : T (p + 1) = 115
    · rw [if_neg_fun (fun q => q b3)]
      exact hok _ 32 rfl (by unfold sg; rw [if_pos a5, if_neg b1, if_neg b2, if_pos b3])
    rw [if_pos_fun b3]
    by_cases b4 : T (p + 1) = 39
    · rw [if_pos_fun b4]
      exact hok _ (T (p + 1)) rfl (by unfold sg; rw [if_pos a5, if_neg b1, if_neg b2, if_neg b3, if_pos (.inl b4)])
    rw [if_neg_fun b4]
    by_cases b5 : T (p + 1) = 34
    · rw [if_pos_fun b5]
      exact hok _ (T (p + 1)) rfl (by unfold sg; rw [if_pos a5, if_neg b1, if_neg b2, if_neg b3, if_pos (.inr (.inl b5))])
    rw [if_neg_fun b5]
    by_cases b6 : T (p + 1) = 42
    · rw [if_neg_fun (fun q => q b6)]
      exact hok _ (T (p + 1)) rfl (by unfold sg; rw [if_pos a5, if_neg b1, if_neg b2, if_neg b3, if_pos (.inr (.inr b6))])
    rw [if_pos_fun b6]
    simp only [zb_X13_oneSign_p128, zb_X13_oneSign_p143]
    rw [if_pos_fun (by decide)]
    refine eS_and (.inl (by trivial)) ?_
    exact hno (by unfold sg; rw [if_pos a5, if_neg b1, if_neg b2, if_neg b3, if_neg (by omega)]) _ (hf2.tr (frm_i rfl))
  · rw [if_neg_fun a5]
    refine eS_ret (fun _ => ⟨hf1, .inr ⟨T p, p + 1, by unfold sg; rw [if_neg a5, if_neg (by omega)], rfl, ?_, hat⟩⟩)
    simp only [Rii, Rgi, Rpi, Rai, Rbi, Rri, Rni, Rdi, Roi, Rti, Rzi, RCi, RSi]
    rw [if_pos (by decide)]
end TM
