/-! ===== TOKENS, part 19: the twin reads one token ===== -/
theorem strf_end {T : Nat → Int} {e : Nat} (h10 : T e = 10) : ∀ {k p q : Nat} {l : List Int}, strf T k p = (l, some q) → p ≤ e → p + l.length ≤ q ∧ q < e := by
  intro k
  induction k with
  | zero => intro p q l h; cases h
  | succ k ih =>
    intro p q l h hp
    unfold strf at h
    split at h
    · rename_i h34
      cases h
      refine ⟨by simp, ?_⟩
      by_cases hpe : p = e
      · rw [hpe, h10] at h34
        cases h34
      · omega
    · cases hs : sg T p with
      | none => rw [hs] at h; cases h
      | some vq =>
        obtain ⟨v, p'⟩ := vq
        rw [hs] at h
        simp only at h
        obtain ⟨g1, g2, g3⟩ := sg_end h10 hp hs
        cases hr : strf T k p' with
        | mk l2 o =>
          rw [hr] at h
          simp only at h
          cases h
          obtain ⟨q1, q2⟩ := ih hr g1
          simp
          omega
theorem tkS_ok {x : List Int × Option Nat} {p : Nat} (h : (tkS x p).1 ≠ tBad) : ∃ l q, x = (l, some q) ∧ l ≠ [] ∧ l.length ≤ 60 ∧ tkS x p = ((3, 0, l), q + 1) := by
  obtain ⟨l, o⟩ := x
  cases o with
  | none => exact absurd rfl h
  | some q =>
    rw [tkS_e] at h
    split at h
    · rename_i hc
      exact ⟨l, q, rfl, hc.1, hc.2, by rw [tkS_e, if_pos hc]⟩
    · exact absurd rfl h
theorem tkC_ok {T : Nat → Int} {x : Option (Int × Nat)} {p : Nat} (h : (tkC T x p).1 ≠ tBad) : ∃ v q, x = some (v, q) ∧ T q = 39 ∧ tkC T x p = ((4, v, []), q + 1) := by
  cases x with
  | none => exact absurd rfl h
  | some vq =>
    obtain ⟨v, q⟩ := vq
    rw [tkC_e] at h
    split at h
    · rename_i hc
      exact ⟨v, q, rfl, hc, by rw [tkC_e, if_pos hc]⟩
    · exact absurd rfl h
theorem tk1_end {T : Nat → Int} {n e p : Nat} (h10 : T e = 10) (he : e ≤ n) (hp : p < e) (h : (tk1 T n p).1 ≠ tBad) : p < (tk1 T n p).2 ∧ (tk1 T n p).2 ≤ e := by
  unfold tk1 at h ⊢
  split
  · rename_i h1
    rw [if_pos h1] at h
    split
    · rename_i h2
      rw [if_pos h2] at h
      exact absurd rfl h
    · refine ⟨?_, nd_le_e isN_10 h10 he rfl (by omega)⟩
      simp only
      rw [nd_go (by omega) (by unfold isN; rw [h1]; rfl)]
      have := nd_ge (p := isN) (T := T) (n := n) (a := p + 1) rfl
      omega
  rename_i h1
  rw [if_neg h1] at h
  split
  · rename_i h2
    rw [if_pos h2] at h
    split
    · rename_i h3
      rw [if_pos h3] at h
      exact absurd rfl h
    · refine ⟨?_, nd_le_e isD_10 h10 he rfl (by omega)⟩
      simp only
      rw [nd_go (by omega) h2]
      have := nd_ge (p := isD) (T := T) (n := n) (a := p + 1) rfl
      omega
  rename_i h2
  rw [if_neg h2] at h
  split
  · rename_i h3
    rw [if_pos h3] at h
    split
    · rename_i h4
      rw [if_pos h4] at h
      exact absurd rfl h
    · refine ⟨?_, nd_le_e isH_10 h10 he rfl (by omega)⟩
      simp only
      have := nd_ge (p := isH) (T := T) (n := n) (a := p + 1) rfl
      omega
  rename_i h3
  rw [if_neg h3] at h
  split
  · rename_i h4
    rw [if_pos h4] at h
    obtain ⟨l, q, e1, e2, e3, e4⟩ := tkS_ok h
    obtain ⟨g1, g2⟩ := strf_end h10 e1 (by omega)
    rw [e4]
    simp only
    omega
  rename_i h4
  rw [if_neg h4] at h
  split
  · rename_i h5
    rw [if_pos h5] at h
    obtain ⟨v, q, e1, e2, e4⟩ := tkC_ok h
    obtain ⟨g1, g2, g3⟩ := sg_end h10 (show p + 1 ≤ e by omega) e1
    rw [e4]
    simp only
    have : q ≠ e := by
      intro e5
      rw [e5, h10] at e2
      cases e2
    omega
  rename_i h5
  rw [if_neg h5] at h
  split
  · rename_i h6
    rw [if_pos h6] at h
    exact absurd rfl h
  · rename_i h6
    unfold sgk
    split
    · simp only; omega
    · rename_i h7
      simp only
      have : p + 1 ≠ e := by
        intro e5
        rw [e5, h10] at h7
        exact h7 sgn2_10
      omega
/-- a token's kind in the twin -/
def kd3 (t : Tk) : Int := match t.1 with
  | 0 => t.2.1 | 1 => 70 | 2 => 71 | 3 => 73 | 4 => 72 | 5 => t.2.1 + 4 | 6 => 76 | 7 => 74 | _ => 75
/-- its value -/
def vl3 (ms SS : List (List Int)) (t : Tk) (x : Int32) : Prop := match t.1 with
  | 1 => ∃ c : Nat, c < ms.length ∧ ms.getD c [] = t.2.2 ∧ x = i_ c
  | 2 => x = i_ t.2.1
  | 3 => ∃ q : Nat, q < SS.length ∧ SS.getD q [] = t.2.2 ∧ x = i_ q
  | 4 => x = i_ t.2.1
  | _ => True
theorem vl3.up {ms ms' SS SS' : List (List Int)} {t : Tk} {x : Int32} (h : vl3 ms SS t x) (h1 : ms <+: ms') (h2 : SS <+: SS') : vl3 ms' SS' t x := by
  obtain ⟨i, v, l⟩ := t
  unfold vl3 at h ⊢
  simp only at h ⊢
  split
  · obtain ⟨c, a1, a2, a3⟩ := h
    obtain ⟨b1, b2⟩ := getD_pre h1 a1
    exact ⟨c, b1, b2.trans a2, a3⟩
  · exact h
  · obtain ⟨c, a1, a2, a3⟩ := h
    obtain ⟨b1, b2⟩ := getD_pre h2 a1
    exact ⟨c, b1, b2.trans a2, a3⟩
  · exact h
  · trivial
def PB3 (ms : List (List Int)) (lm : Nat) (SS : List (List Int)) (se q : Nat) : Prop := (ms.length ≤ q ∧ lm ≤ q) ∧ SS.length ≤ q ∧ se ≤ q
def K13 : List Nat := [13, 14, 15, 16, 17, 18, 19, 20, 21, 22, 23, 24]
/-- what scan brings -/
def SC3 (w : wS) (T : Nat → Int) (n p : Nat) (ms : List (List Int)) (SS : List (List Int)) (r : kx_Rs) (w' : wS) : Prop := ∃ ms' lm' SS' se', (NT3 w' ms' lm' ∧ ST3 w' SS' se' ∧ ms <+: ms' ∧ SS <+: SS') ∧ frm (pk 12 K13) w w' ∧ r = .inl (some (.int (i_ (kd3 (tk1 T n p).1)))) ∧ vl3 ms' SS' (tk1 T n p).1 (w_i w' 12 0 24) ∧ ((tk1 T n p).1 ≠ tBad → w_i w' 12 0 23 = i_ (tk1 T n p).2 ∧ PB3 ms' lm' SS' se' (tk1 T n p).2)
section TP
variable {E : zE} {L : Nat} {w : wS} {T : Nat → Int} {n p e k a m lm se : Nat} {ms SS : List (List Int)}
theorem PB3.up {q : Nat} (h : PB3 ms lm SS se p) (hq : p ≤ q) : PB3 ms lm SS se q := by
  obtain ⟨⟨b1, b2⟩, b3, b4⟩ := h
  exact ⟨⟨by omega, by omega⟩, by omega, by omega⟩
theorem t_scan (hL : 500 ≤ L) (hT : TT E w T n) (hN : NT3 w ms lm) (hS : ST3 w SS se) (hp : w_i w 12 0 23 = i_ p) (hpe : p < e) (he : e ≤ n) (h10 : T e = 10) (hP : PB3 ms lm SS se p) : eW w (fun Q => zw E L kt_M530 [.ref (w_adr E.2.1 12 0)] w Q) (SC3 w T n p ms SS) := by
  have hTx := hT
  obtain ⟨⟨hn, hx10, hxr⟩, hA⟩ := hT.1
  obtain ⟨⟨b1, b2⟩, b3, b4⟩ := hP
  have hr := hxr p
  have hend := tk1_end (T := T) (n := n) h10 he hpe
  -- a number
  have hnum : ∀ (t : Tk × Nat) r w2, wle w w2 → t = tk1 T n p → NU3 w t r w2 → SC3 w T n p ms SS r w2 := by
    intro t r w2 _ ht hnu
    subst ht
    obtain ⟨hf, hc⟩ := hnu
    refine ⟨ms, lm, SS, se, ⟨hN.frm hf (by decide), hS.frm hf (by decide), List.prefix_refl _, List.prefix_refl _⟩, hf.sub (by decide), ?_⟩
    rcases hc with ⟨h1, h2⟩ | ⟨h1, h2, h3, h4⟩
    · rw [h1]
      exact ⟨h2, by unfold vl3 tBad; trivial, fun h => absurd rfl h⟩
    · have hk : kd3 (tk1 T n p).1 = 71 := by unfold kd3; rw [h1]; rfl
      have hv : vl3 ms SS (tk1 T n p).1 (w_i w2 12 0 24) := by unfold vl3; rw [h1]; exact h3
      rw [hk]
      exact ⟨h2, hv, fun hnb => ⟨h4, PB3.up ⟨⟨b1, b2⟩, b3, b4⟩ (by have := hend hnb; omega)⟩⟩
  refine eW_of (A := fun Q => zb_X13_scan_p0 E L Q w) (fun Q h => zt_X13_scan_p0 (by omega) h) ?_
  simp only [zb_X13_scan_p0, zb_X13_scan_p148]
  refine eS_k (fun Q hq => t_here0 (by omega) hT hp (by omega) hq) ?_
  refine eS_k (fun Q hq => t_isLetter (by omega) hq) ?_
  rw [i_toInt (by omega)]
  cases hl : isL (T p) with
  | true =>
    rw [if_neg_fun (by decide)]
    have hble : nd isN T n p ≤ e := nd_le_e isN_10 h10 he rfl (by omega)
    have hp1 : p < nd isN T n p := by
      rw [nd_go (by omega) (by unfold isN; rw [hl]; rfl)]
      have := nd_ge (p := isN) (T := T) (n := n) (a := p + 1) rfl
      omega
    have htk : tk1 T n p = if 16 < nd isN T n p - p then (tBad, p) else (tkW (seg T p (nd isN T n p)), nd isN T n p) := by
      unfold tk1
      rw [if_pos hl]
    have loop : ∀ d q w', q + d = nd isN T n p → p ≤ q → frm (pk 12 [23]) w w' → w_i w' 12 0 23 = i_ q → eS (fun Q => zL_X13_scan_p18 E L Q (i_ p) w') (fun r w2 => wle w w2 → SC3 w T n p ms SS r w2) := by
      intro d
      induction d with
      | zero =>
        intro q w' hq hpq hf hat
        have hT' := hT.frm hf (by decide)
        have hqq : nd isN T n p = q := by omega
        have hrq := hxr q
        have hstop : isN (T q) = false := by
          rw [← hqq]
          exact nd_at (fun k hk => by rw [hx10 k hk]; exact isN_10) rfl
        refine eS_l (fun Q h => zt_X13_scan_p18 (by omega) h) ?_
        simp only [zb_X13_scan_p18]
        refine eS_k (fun Q hq => t_here0 (by omega) hT' hat (by omega) hq) ?_
        refine eS_k (fun Q hq => t_goesOn (by omega) hq) ?_
        rw [i_toInt (by omega), hstop, if_pos_fun (by decide), hat, i_sub, show (q : Int) - (p : Int) = ((q - p : Nat) : Int) by omega]
        rw [hqq] at htk
        by_cases h16 : 16 < q - p
        · rw [if_pos h16] at htk
          rw [if_neg_fun (fun z => by rw [show (16 : Int32) = i_ 16 from rfl] at z; have := (i_le (by omega) (by omega)).mp z; omega)]
          refine eS_ret (fun _ => ⟨ms, lm, SS, se, ⟨hN.frm hf (by decide), hS.frm hf (by decide), List.prefix_refl _, List.prefix_refl _⟩, hf.sub (by decide), ?_⟩)
          rw [htk]
          exact ⟨rfl, by unfold vl3 tBad; trivial, fun h => absurd rfl h⟩
        · rw [if_neg h16] at htk
          rw [if_pos_fun (by rw [show (16 : Int32) = i_ 16 from rfl]; exact (i_le (by omega) (by omega)).mpr (by omega))]
          have hsl : (seg T p q).length = q - p := seg_len
          have hss : ∀ j, j < (seg T p q).length → (seg T p q).getD j 0 = T (p + j) ∧ 0 ≤ T (p + j) ∧ T (p + j) < 128 := by
            intro j hj
            rw [hsl] at hj
            exact ⟨seg_at hj, isN_asc (nd_in (p := isN) (T := T) (n := n) (a := p) rfl (p + j) (by omega) (by omega))⟩
          rw [show ((q - p : Nat) : Int) = ((seg T p q).length : Int) by rw [hsl]]
          cases hidx : (wds.take 36).idxOf? (seg T p q) with
          | some c =>
            obtain ⟨c1, c2⟩ := idxW hidx
            refine eS_k (v := i_ c) (fun Q hq => t_wordOf (by omega) hT' hss (by omega) (fun c' h => by rw [hidx] at h; cases h; exact hq) (fun h => by rw [hidx] at h; cases h)) ?_
            rw [if_neg_fun (fun z => by rw [i_0] at z; have := (i_lt (by omega) (by omega)).mp z; omega)]
            have htk2 : tk1 T n p = ((0, (c : Int), []), q) := by
              rw [htk]
              unfold tkW
              rw [hidx]
            refine eS_ret (fun _ => ⟨ms, lm, SS, se, ⟨hN.frm hf (by decide), hS.frm hf (by decide), List.prefix_refl _, List.prefix_refl _⟩, hf.sub (by decide), ?_⟩)
            rw [htk2]
            exact ⟨rfl, by unfold vl3; trivial, fun _ => ⟨hat, PB3.up ⟨⟨b1, b2⟩, b3, b4⟩ (by simp only; omega)⟩⟩
          | none =>
            refine eS_k (v := i_ (-1)) (fun Q hq => t_wordOf (by omega) hT' hss (by omega) (fun c' h => by rw [hidx] at h; cases h) (fun h => hq)) ?_
            rw [if_pos_fun (by decide), hat, i_sub, show (q : Int) - (p : Int) = ((seg T p q).length : Int) by rw [hsl]; omega]
            refine eS_ce (t_nameOf (by omega) hT' (hN.frm hf (by decide)) hss (by omega) (by omega) ⟨by omega, by omega⟩) ?_
            intro r w2 hle ⟨ms', lm', c, g1, g2, g3, g4, g5, g6, g7, g8⟩
            subst g5
            simp only [wk1, hle, forall_const]
            have htk2 : tk1 T n p = ((1, 0, seg T p q), q) := by
              rw [htk]
              unfold tkW
              rw [hidx]
            have hf2 : frm (pk 12 [24]) w2 (ws_i w2 12 0 24 (i_ c)) := frm_i rfl
            refine eS_ret (fun _ => ⟨ms', lm', SS, se, ⟨g1.frm hf2 (by decide), ((hS.frm hf (by decide)).frm g6 (by decide)).frm hf2 (by decide), g2, List.prefix_refl _⟩, ((hf.sub (by decide)).tr (g6.sub (by decide))).tr (hf2.sub (by decide)), ?_⟩)
            rw [htk2]
            refine ⟨rfl, ?_, fun _ => ⟨?_, ⟨by simp only; omega, by simp only; omega⟩, by simp only; omega, by simp only; omega⟩⟩
            · unfold vl3
              exact ⟨c, g3, g4, by simp only [Rii, Rgi, Rpi, Rai, Rbi, Rri, Rni, Rdi, Roi, Rti, Rzi, RCi, RSi]; rw [if_pos (by decide)]⟩
            · rw [hf2.i rfl, g6.i rfl]
              exact hat
      | succ d ih =>
        intro q w' hq hpq hf hat
        have hT' := hT.frm hf (by decide)
        have hrq := hxr q
        have hin := nd_in (p := isN) (T := T) (n := n) (a := p) rfl q hpq (by omega)
        refine eS_l (fun Q h => zt_X13_scan_p18 (by omega) h) ?_
        simp only [zb_X13_scan_p18]
        refine eS_k (fun Q hq => t_here0 (by omega) hT' hat (by omega) hq) ?_
        refine eS_k (fun Q hq => t_goesOn (by omega) hq) ?_
        rw [i_toInt (by omega), hin, if_neg_fun (by decide)]
        refine ih (q + 1) _ (by omega) (by omega) (hf.tr (frm_i rfl)) ?_
        simp only [Rii, Rgi, Rpi, Rai, Rbi, Rri, Rni, Rdi, Roi, Rti, Rzi, RCi, RSi]
        rw [if_pos (by decide), hat, i_1, i_add, cN1]
    rw [hp]
    exact loop (nd isN T n p - p) p w (by omega) (Nat.le_refl _) frm.rf hp
  | false =>
    rw [if_pos_fun (by decide)]
    refine eS_k (fun Q hq => t_isDigit (by omega) hq) ?_
    rw [i_toInt (by omega)]
    cases hd : isD (T p) with
    | true =>
      rw [if_neg_fun (by decide)]
      refine eS_ce (t_decimal (by omega) hT hp (by omega)) ?_
      intro r w2 hle hnu
      have hsc := hnum _ r w2 hle (by unfold tk1; rw [if_neg (by rw [hl]; decide), if_pos hd]; rfl) hnu
      rcases hnu with ⟨hf, ⟨-, h2⟩ | ⟨-, h2, -⟩⟩
      all_goals
        subst h2
        simp only [wk1, hle, forall_const]
        exact eS_ret (fun _ => hsc)
    | false =>
      rw [if_pos_fun (by decide)]
      simp only [show (35 : Int32) = i_ 35 from rfl, show (39 : Int32) = i_ 39 from rfl, show (34 : Int32) = i_ 34 from rfl, i_eqk (show -1000 ≤ T p ∧ T p ≤ 1000 by omega) (show (-1000 : Int) ≤ 35 by decide) (by decide), i_eqk (show -1000 ≤ T p ∧ T p ≤ 1000 by omega) (show (-1000 : Int) ≤ 39 by decide) (by decide), i_eqk (show -1000 ≤ T p ∧ T p ≤ 1000 by omega) (show (-1000 : Int) ≤ 34 by decide) (by decide)]
      by_cases c35 : T p = 35
      · rw [if_neg_fun (fun q => q c35)]
        refine eS_ce (t_sixteen (by omega) hT hp (by omega)) ?_
        intro r w2 hle hnu
        have hsc := hnum _ r w2 hle (by unfold tk1; rw [if_neg (by rw [hl]; decide), if_neg (by rw [hd]; decide), if_pos c35]; rfl) hnu
        rcases hnu with ⟨hf, ⟨-, h2⟩ | ⟨-, h2, -⟩⟩
        all_goals
          subst h2
          simp only [wk1, hle, forall_const]
          exact eS_ret (fun _ => hsc)
      rw [if_pos_fun c35]
      by_cases c39 : T p = 39
      · rw [if_neg_fun (fun q => q c39)]
        have htk : tk1 T n p = tkC T (sg T (p + 1)) p := by
          unfold tk1
          rw [if_neg (by rw [hl]; decide), if_neg (by rw [hd]; decide), if_neg c35, if_neg (by omega), if_pos c39]
        have hf1 : frm (pk 12 [23]) w (ws_i w 12 0 23 (w_i w 12 0 23 + 1)) := frm_i rfl
        have hat : w_i (ws_i w 12 0 23 (w_i w 12 0 23 + 1)) 12 0 23 = i_ (p + 1 : Nat) := by
          simp only [Rii, Rgi, Rpi, Rai, Rbi, Rri, Rni, Rdi, Roi, Rti, Rzi, RCi, RSi]
          rw [if_pos (by decide), hp, i_1, i_add, cN1]
        have bad : (tk1 T n p).1 = tBad → ∀ w2, frm (pk 12 [23, 24]) w w2 → eS (fun Q => Q (.inl (some (.int 76))) w2) (fun r w2 => wle w w2 → SC3 w T n p ms SS r w2) := by
          intro hb w2 hf
          refine eS_ret (fun _ => ⟨ms, lm, SS, se, ⟨hN.frm hf (by decide), hS.frm hf (by decide), List.prefix_refl _, List.prefix_refl _⟩, hf.sub (by decide), ?_⟩)
          rw [hb]
          exact ⟨rfl, by unfold vl3 tBad; trivial, fun h => absurd rfl h⟩
        refine eS_ce (t_oneSign (by omega) (hT.frm hf1 (by decide)) hat (by omega)) ?_
        intro r w2 hle ⟨hf2, hc⟩
        rcases hc with ⟨h1, h2⟩ | ⟨v, p', h1, h2, h3, h4⟩
        · subst h2
          simp only [wk1, hle, forall_const]
          rw [if_pos_fun trivial]
          exact bad (by rw [htk, h1]; rfl) w2 ((hf1.sub (by decide)).tr (hf2.sub (by decide)))
        · subst h2
          simp only [wk1, hle, forall_const]
          rw [if_neg_fun (by decide)]
          obtain ⟨g1, g2, g3⟩ := sg_end h10 (show p + 1 ≤ e by omega) h1
          have hv := sg_v h1
          have hrp := hxr p'
          refine eS_k (fun Q hq => t_here0 (by omega) ((hT.frm hf1 (by decide)).frm hf2 (by decide)) h4 (by omega) hq) ?_
          by_cases c39b : T p' = 39
          · rw [if_pos_fun (by rw [c39b])]
            have htk2 : tk1 T n p = ((4, v, []), p' + 1) := by
              rw [htk, h1, tkC_e, if_pos c39b]
            have hf3 : frm (pk 12 [23]) w2 (ws_i w2 12 0 23 (w_i w2 12 0 23 + 1)) := frm_i rfl
            refine eS_ret (fun _ => ⟨ms, lm, SS, se, ⟨((hN.frm hf1 (by decide)).frm hf2 (by decide)).frm hf3 (by decide), ((hS.frm hf1 (by decide)).frm hf2 (by decide)).frm hf3 (by decide), List.prefix_refl _, List.prefix_refl _⟩, ((hf1.sub (by decide)).tr (hf2.sub (by decide))).tr (hf3.sub (by decide)), ?_⟩)
            rw [htk2]
            refine ⟨rfl, ?_, fun _ => ⟨?_, PB3.up ⟨⟨b1, b2⟩, b3, b4⟩ (by simp only; omega)⟩⟩
            · unfold vl3
              simp only
              rw [hf3.i rfl]
              exact h3
            · simp only [Rii, Rgi, Rpi, Rai, Rbi, Rri, Rni, Rdi, Roi, Rti, Rzi, RCi, RSi]
              rw [if_pos (by decide), h4, i_1, i_add, cN1]
          · rw [if_neg_fun (fun q => c39b ((i_eq (by omega) (by omega)).mp q))]
            exact bad (by rw [htk, h1, tkC_e, if_neg c39b]) w2 ((hf1.sub (by decide)).tr (hf2.sub (by decide)))
      rw [if_pos_fun c39]
      by_cases c34 : T p = 34
      · rw [if_neg_fun (fun q => q c34)]
        have htk : tk1 T n p = tkS (strf T (n + 1) (p + 1)) p := by
          unfold tk1
          rw [if_neg (by rw [hl]; decide), if_neg (by rw [hd]; decide), if_neg c35, if_pos c34]
        refine eS_ce (t_string (by omega) hT hS hp (by omega) ⟨b3, b4⟩) ?_
        intro r w2 hle ⟨hf, hc⟩
        rw [← htk] at hc
        rcases hc with ⟨h1, h2, h3⟩ | ⟨h1, h2, h3, h4, h5, h6, h7⟩
        · subst h2
          simp only [wk1, hle, forall_const]
          refine eS_ret (fun _ => ⟨ms, lm, SS, se, ⟨hN.frm hf (by decide), h3, List.prefix_refl _, List.prefix_refl _⟩, hf.sub (by decide), ?_⟩)
          rw [h1]
          exact ⟨rfl, by unfold vl3 tBad; trivial, fun h => absurd rfl h⟩
        · subst h2
          simp only [wk1, hle, forall_const]
          refine eS_ret (fun _ => ⟨ms, lm, SS ++ [(tk1 T n p).1.2.2], se + (tk1 T n p).1.2.2.length, ⟨hN.frm hf (by decide), h3, List.prefix_refl _, List.prefix_append _ _⟩, hf.sub (by decide), ?_, ?_, fun hnb => ⟨h5, ⟨by omega, by omega⟩, by simp; omega, by omega⟩⟩)
          · have hk : kd3 (tk1 T n p).1 = 73 := by unfold kd3; rw [h1]; rfl
            rw [hk]
            rfl
          · unfold vl3
            rw [h1]
            exact ⟨SS.length, by simp, getD_last, h4⟩
      rw [if_pos_fun c34]
      have htk : tk1 T n p = if (sgk T p).1 = -1 then (tBad, p) else ((5, (sgk T p).1, []), (sgk T p).2) := by
        unfold tk1
        rw [if_neg (by rw [hl]; decide), if_neg (by rw [hd]; decide), if_neg c35, if_neg c34, if_neg c39]
      refine eS_mono (t_signs (by omega) hT hp (by omega)) ?_
      intro r w2 ⟨hf, hc⟩ _
      refine ⟨ms, lm, SS, se, ⟨hN.frm hf (by decide), hS.frm hf (by decide), List.prefix_refl _, List.prefix_refl _⟩, hf.sub (by decide), ?_⟩
      rcases hc with ⟨h1, h2⟩ | ⟨h1, h2, h3⟩
      · rw [if_pos h1] at htk
        rw [htk]
        exact ⟨h2, by unfold vl3 tBad; trivial, fun h => absurd rfl h⟩
      · rw [if_neg h1] at htk
        rw [htk]
        have : p < (sgk T p).2 := by
          unfold sgk
          split <;> simp
        exact ⟨h2, by unfold vl3; trivial, fun _ => ⟨h3, PB3.up ⟨⟨b1, b2⟩, b3, b4⟩ (by simp only; omega)⟩⟩
end TP
