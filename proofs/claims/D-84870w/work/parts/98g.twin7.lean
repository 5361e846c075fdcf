/-! ===== TOKENS, part 20: the twin cuts a text ===== -/
def TCK (w : wS) (ms SS : List (List Int)) (k : Nat) (t : Tk × Nat × Int) : Prop := w_a w 12 0 7 k = i_ (kd3 t.1) ∧ vl3 ms SS t.1 (w_a w 12 0 8 k) ∧ w_a w 12 0 9 k = i_ t.2.1 ∧ w_a w 12 0 10 k = i_ t.2.2
theorem TCK.up {w w' : wS} {ms ms' SS SS' : List (List Int)} {k : Nat} {t : Tk × Nat × Int} (h : TCK w ms SS k t) (h7 : w_a w' 12 0 7 k = w_a w 12 0 7 k) (h8 : w_a w' 12 0 8 k = w_a w 12 0 8 k) (h9 : w_a w' 12 0 9 k = w_a w 12 0 9 k) (h10 : w_a w' 12 0 10 k = w_a w 12 0 10 k) (h1 : ms <+: ms') (h2 : SS <+: SS') : TCK w' ms' SS' k t := ⟨h7.trans h.1, by rw [h8]; exact h.2.1.up h1 h2, h9.trans h.2.2.1, h10.trans h.2.2.2⟩
/-- the tokens so far in the twin -/
def TKb (E : zE) (w : wS) (T : Nat → Int) (n : Nat) (ms : List (List Int)) (lm : Nat) (SS : List (List Int)) (se : Nat) (K : List (Tk × Nat × Int)) : Prop := (TT E w T n ∧ NT3 w ms lm ∧ ST3 w SS se) ∧ w_i w 12 0 6 = i_ K.length ∧ ∀ k t, K[k]? = some t → TCK w ms SS k t
def TK3 (E : zE) (w : wS) (T : Nat → Int) (n : Nat) (ms : List (List Int)) (lm : Nat) (SS : List (List Int)) (se : Nat) (K : List (Tk × Nat × Int)) : Prop := TKb E w T n ms lm SS se K ∧ w_i w 12 0 11 = i_ (cntT K) ∧ w_i w 12 0 12 = i_ (cntL K)
def tk3 (w : wS) (m : Nat) (a b c d : Int32) : wS := ws_i (ws_a (ws_a (ws_a (ws_a w 12 0 7 m a) 12 0 8 m b) 12 0 9 m c) 12 0 10 m d) 12 0 6 (i_ (m + 1 : Nat))
/-- a line's tokens, the first with its blanks -/
def annB (ln : Nat) (b : Int) : List Tk → List (Tk × Nat × Int)
  | [] => []
  | t :: ts => (t, ln, b) :: ts.map (fun t => (t, ln, -1))
theorem annB_len {ln : Nat} {b : Int} {ts : List Tk} : (annB ln b ts).length = ts.length := by cases ts <;> simp [annB]
theorem annB_snoc {ln : Nat} {b : Int} {ts : List Tk} {t : Tk} : annB ln b (ts ++ [t]) = annB ln b ts ++ [(t, ln, if ts.length = 0 then b else -1)] := by cases ts <;> simp [annB]
theorem mark_annB {ln : Nat} {b : Int} {ts : List Tk} : mark ln b ts = if ts.length = 0 then [] else annB ln b ts ++ [(tLin, ln, -1)] := by cases ts <;> simp [annB, mark]
def K14 : List Nat := [6, 7, 8, 9, 10, 11, 12, 13, 14, 15, 16, 17, 18, 19, 20, 21, 22, 23, 24]
section TQ
variable {E : zE} {L : Nat} {w : wS} {T : Nat → Int} {n p e k a m lm se ln : Nat} {ms SS : List (List Int)} {K : List (Tk × Nat × Int)} {Q : kx_Rs → wS → Prop}
theorem t_token (hL : 30 ≤ L) (hTL : TL3 w) (hm : w_i w 12 0 6 = i_ m) (hm2 : m < 12002) {a b c d : Int32} (h : Q (.inl none) (tk3 w m a b c d)) : zw E L kt_M562 [.ref (w_adr E.2.1 12 0), .int a, .int b, .int c, .int d] w Q := by
  obtain ⟨-, ⟨l7, l8, l9, l10⟩, -⟩ := hTL
  refine zt_X13_token_p0 (by omega) ?_
  simp only [zb_X13_token_p0, hm, l7, l8, l9, l10, i_inb' (show m < 2147483648 by omega) hm2, i_nat' (show m < 2147483648 by omega), true_and]
  rw [i_1, i_add, cN1]
  exact h
theorem tk3_f {a b c d : Int32} : frm (pk 12 [6, 7, 8, 9, 10]) w (tk3 w m a b c d) := by
  unfold tk3
  exact ((((frm_a rfl).tr (frm_a rfl)).tr (frm_a rfl)).tr (frm_a rfl)).tr (frm_i rfl)
theorem tk3_7 {a b c d : Int32} {q : Nat} : w_a (tk3 w m a b c d) 12 0 7 q = if q = m then a else w_a w 12 0 7 q := by
  unfold tk3
  simp only [Rii, Rgi, Rpi, Rai, Rbi, Rri, Rni, Rdi, Roi, Rti, Rzi, RCi, RSi, Ria, Rga, Rpa, Raa, Rba, Rra, Rna, Rda, Roa, Rta, Rza, RCa, RSa]
  simp
theorem tk3_8 {a b c d : Int32} {q : Nat} : w_a (tk3 w m a b c d) 12 0 8 q = if q = m then b else w_a w 12 0 8 q := by
  unfold tk3
  simp only [Rii, Rgi, Rpi, Rai, Rbi, Rri, Rni, Rdi, Roi, Rti, Rzi, RCi, RSi, Ria, Rga, Rpa, Raa, Rba, Rra, Rna, Rda, Roa, Rta, Rza, RCa, RSa]
  simp
theorem tk3_9 {a b c d : Int32} {q : Nat} : w_a (tk3 w m a b c d) 12 0 9 q = if q = m then c else w_a w 12 0 9 q := by
  unfold tk3
  simp only [Rii, Rgi, Rpi, Rai, Rbi, Rri, Rni, Rdi, Roi, Rti, Rzi, RCi, RSi, Ria, Rga, Rpa, Raa, Rba, Rra, Rna, Rda, Roa, Rta, Rza, RCa, RSa]
  simp
theorem tk3_10 {a b c d : Int32} {q : Nat} : w_a (tk3 w m a b c d) 12 0 10 q = if q = m then d else w_a w 12 0 10 q := by
  unfold tk3
  simp only [Rii, Rgi, Rpi, Rai, Rbi, Rri, Rni, Rdi, Roi, Rti, Rzi, RCi, RSi, Ria, Rga, Rpa, Raa, Rba, Rra, Rna, Rda, Roa, Rta, Rza, RCa, RSa]
  simp
theorem tk3_6 {a b c d : Int32} : w_i (tk3 w m a b c d) 12 0 6 = i_ (m + 1 : Nat) := by
  unfold tk3
  simp only [Rii, Rgi, Rpi, Rai, Rbi, Rri, Rni, Rdi, Roi, Rti, Rzi, RCi, RSi, Ria, Rga, Rpa, Raa, Rba, Rra, Rna, Rda, Roa, Rta, Rza, RCa, RSa]
  simp
/-- a token more -/
theorem TKb.add (h : TKb E w T n ms lm SS se K) {t : Tk} {b : Int} {v : Int32} (hv : vl3 ms SS t v) : TKb E (tk3 w K.length (i_ (kd3 t)) v (i_ ln) (i_ b)) T n ms lm SS se (K ++ [(t, ln, b)]) := by
  obtain ⟨⟨h1, h2, h3⟩, h4, h7⟩ := h
  have hf : frm (pk 12 [6, 7, 8, 9, 10]) w (tk3 w K.length (i_ (kd3 t)) v (i_ ln) (i_ b)) := tk3_f
  refine ⟨⟨h1.frm hf (by decide), h2.frm hf (by decide), h3.frm hf (by decide)⟩, by rw [tk3_6]; simp, fun k t' hk => ?_⟩
  by_cases hkl : k < K.length
  · rw [List.getElem?_append_left hkl] at hk
    exact (h7 k t' hk).up (by rw [tk3_7, if_neg (by omega)]) (by rw [tk3_8, if_neg (by omega)]) (by rw [tk3_9, if_neg (by omega)]) (by rw [tk3_10, if_neg (by omega)]) (List.prefix_refl _) (List.prefix_refl _)
  · rw [List.getElem?_append_right (by omega)] at hk
    have hk2 : k = K.length := by
      by_cases e : k - K.length = 0
      · omega
      · rw [List.getElem?_eq_none (by simp; omega)] at hk
        cases hk
    subst hk2
    simp at hk
    subst hk
    exact ⟨by rw [tk3_7, if_pos rfl], by rw [tk3_8, if_pos rfl]; exact hv, by rw [tk3_9, if_pos rfl], by rw [tk3_10, if_pos rfl]⟩
theorem TKb.frm {P : Nat → Nat → Bool} {w' : wS} (h : TKb E w T n ms lm SS se K) (hf : frm P w w') (hp : ∀ k, k < 23 → k ≠ 11 → k ≠ 12 → P 12 k = false) : TKb E w' T n ms lm SS se K := by
  obtain ⟨⟨h1, h2, h3⟩, h4, h7⟩ := h
  have hq : ∀ k, (k < 11 ∨ (12 < k ∧ k < 23)) → P 12 k = false := fun k hk => hp k (by omega) (by omega) (by omega)
  exact ⟨⟨h1.frm hf ⟨hq 2 (by decide), hq 3 (by decide), hq 4 (by decide), hq 5 (by decide)⟩, h2.frm hf ⟨hq 13 (by decide), hq 14 (by decide), hq 15 (by decide), hq 16 (by decide), hq 17 (by decide)⟩, h3.frm hf ⟨hq 18 (by decide), hq 19 (by decide), hq 20 (by decide), hq 21 (by decide), hq 22 (by decide)⟩⟩, by rw [hf.i (hq 6 (by decide))]; exact h4, fun k t hk => (h7 k t hk).up (hf.a (hq 7 (by decide))) (hf.a (hq 8 (by decide))) (hf.a (hq 9 (by decide))) (hf.a (hq 10 (by decide))) (List.prefix_refl _) (List.prefix_refl _)⟩
theorem p23 : ∀ k, k < 23 → k ≠ 11 → k ≠ 12 → pk 12 [11, 12, 23] 12 k = false := by decide
theorem TK3.at' {w' : wS} (h : TK3 E w T n ms lm SS se K) (hf : frm (pk 12 [23]) w w') : TK3 E w' T n ms lm SS se K := ⟨h.1.frm (hf.sub (K' := [11, 12, 23]) (by decide)) p23, by rw [hf.i rfl]; exact h.2.1, by rw [hf.i rfl]; exact h.2.2⟩
/-- what all tokens are in the twin: those of the text, or those up to the first bad one -/
def TE3 (F K : List (Tk × Nat × Int)) (P : Prop) : Prop := (K = F ∧ P) ∨ ∃ A ln b R, F = A ++ (tBad, ln, b) :: R ∧ (∀ t ∈ A, t.1 ≠ tBad) ∧ (A ++ [(tBad, ln, b)]) <+: K
def SA3 (E : zE) (w0 : wS) (T : Nat → Int) (n : Nat) (F : List (Tk × Nat × Int)) (r : kx_Rs) (w' : wS) : Prop := r = .inl none ∧ ∃ ms lm SS se K, TK3 E w' T n ms lm SS se K ∧ K.length < 12000 ∧ TE3 F K ((∀ t ∈ K, t.1 ≠ tBad) ∧ PB3 ms lm SS se 1281) ∧ frm (pk 12 K14) w0 w'
/-- the last token -/
theorem t_fin (hL : 100 ≤ L) {w0 : wS} {F : List (Tk × Nat × Int)} (hK : K.length < 9000) (h : TK3 E w T n ms lm SS se K) (hf : frm (pk 12 K14) w0 w) (hF : TE3 F (K ++ [(tFin, ln, -1)]) ((∀ t ∈ K ++ [(tFin, ln, -1)], t.1 ≠ tBad) ∧ PB3 ms lm SS se 1281)) : eS (fun Q => zb_X13_scanAll_p347 E L Q (i_ ln) w) (SA3 E w0 T n F) := by
  simp only [zb_X13_scanAll_p347]
  refine eS_c (fun Q hq => t_token (by omega) h.1.1.1.2.1 h.1.2.1 (by omega) hq) ?_
  intro hle
  simp only [wk0, hle, forall_const]
  have hf1 : frm (pk 12 [6, 7, 8, 9, 10]) w (tk3 w K.length 75 0 (i_ ln) (-1)) := tk3_f
  have ha := h.1.add (ln := ln) (b := -1) (t := tFin) (v := 0) (by unfold vl3 tFin; trivial)
  refine eS_ret ⟨rfl, ms, lm, SS, se, _, ⟨ha, ?_, ?_⟩, by simp; omega, hF, hf.tr (hf1.sub (by decide))⟩
  · rw [cntT_app]
    exact (hf1.i rfl).trans h.2.1
  · rw [cntL_app]
    exact (hf1.i rfl).trans h.2.2
theorem tk1_kd : (tk1 T n p).1 = tBad ∨ (0 ≤ kd3 (tk1 T n p).1 ∧ kd3 (tk1 T n p).1 < 74) := by
  by_cases hb : (tk1 T n p).1 = tBad
  · exact .inl hb
  refine .inr ?_
  unfold tk1 at hb ⊢
  split
  · rename_i h1
    rw [if_pos h1] at hb
    split
    · rename_i h2
      rw [if_pos h2] at hb
      exact absurd rfl hb
    · simp only
      unfold tkW
      split
      · rename_i c hc
        have := idxW hc
        simp only [kd3]
        omega
      · simp [kd3]
  rename_i h1
  rw [if_neg h1] at hb
  split
  · rename_i h2
    rw [if_pos h2] at hb
    split
    · rename_i h3
      rw [if_pos h3] at hb
      exact absurd rfl hb
    · simp [kd3]
  rename_i h2
  rw [if_neg h2] at hb
  split
  · rename_i h3
    rw [if_pos h3] at hb
    split
    · rename_i h4
      rw [if_pos h4] at hb
      exact absurd rfl hb
    · simp [kd3]
  rename_i h3
  rw [if_neg h3] at hb
  split
  · rename_i h4
    rw [if_pos h4] at hb
    obtain ⟨l, q, e1, e2, e3, e4⟩ := tkS_ok hb
    rw [e4]
    simp [kd3]
  rename_i h4
  rw [if_neg h4] at hb
  split
  · rename_i h5
    rw [if_pos h5] at hb
    obtain ⟨v, q, e1, e2, e4⟩ := tkC_ok hb
    rw [e4]
    simp [kd3]
  rename_i h5
  rw [if_neg h5] at hb
  split
  · rename_i h6
    rw [if_pos h6] at hb
    exact absurd rfl hb
  · rename_i h6
    have hv1 := @sgn1_v (T p)
    have hv2 := @sgn2_v (T p) (T (p + 1))
    unfold sgn_ok at hv1
    simp only [kd3]
    unfold sgk at h6 ⊢
    split
    · rename_i h7
      rw [if_pos h7] at h6
      simp only at h6 ⊢
      omega
    · simp only
      omega
theorem cntT_annB {b : Int} {ts : List Tk} {t : Tk} : cntT (annB ln b (ts ++ [t])) = cntT (annB ln b ts) + cntT [(t, ln, (0 : Int))] := by
  rw [annB_snoc, cntT_app]
  simp [cntT, List.filter_cons]
  split <;> simp
theorem cntL_annB {b : Int} {ts : List Tk} {t : Tk} : cntL (annB ln b (ts ++ [t])) = cntL (annB ln b ts) + cntL [(t, ln, (0 : Int))] := by
  rw [annB_snoc, cntL_app]
  simp [cntL, List.filter_cons]
  split <;> simp
/-- a line's end -/
theorem t_line_end (hL : 100 ≤ L) {ts : List Tk} {b : Int} {x2 : Int32} {R : kx_Rs → wS → Prop} (hK : K.length + ts.length < 9000) (hJ : TK3 E w T n ms lm SS se (K ++ annB ln b ts)) (next : ∀ w', TK3 E w' T n ms lm SS se (K ++ mark ln b ts) → frm (pk 12 [6, 7, 8, 9, 10, 12]) w w' → eS (fun Q => zb_X13_scanAll_p320 E L Q (i_ ln) x2 w') R) : eS (fun Q => zb_X13_scanAll_p292 E L Q (i_ ln) x2 (i_ K.length) w) R := by
  have hm : w_i w 12 0 6 = i_ (K.length + ts.length : Nat) := by
    rw [hJ.1.2.1]
    simp [annB_len]
  simp only [zb_X13_scanAll_p292, hm]
  by_cases h0 : ts.length = 0
  · rw [if_pos_fun ((i_le (by omega) (by omega)).mpr (by omega))]
    refine next w ?_ frm.rf
    rw [mark_annB, if_pos h0, List.append_nil]
    have : annB ln b ts = [] := by
      cases ts with
      | nil => rfl
      | cons t ts => simp at h0
    rw [this, List.append_nil] at hJ
    exact hJ
  rw [if_neg_fun (fun q => by have := (i_le (by omega) (by omega)).mp q; omega)]
  have hlen : (K ++ annB ln b ts).length = K.length + ts.length := by simp [annB_len]
  refine eS_c (fun Q hq => t_token (by omega) hJ.1.1.1.2.1 hm (by omega) hq) ?_
  intro hle
  simp only [wk0, hle, forall_const]
  have ha := hJ.1.add (ln := ln) (b := -1) (t := tLin) (v := 0) (by unfold vl3 tLin; trivial)
  rw [hlen] at ha
  have hf1 : frm (pk 12 [6, 7, 8, 9, 10]) w (tk3 w (K.length + ts.length) 74 0 (i_ ln) (-1)) := tk3_f
  have hf2 : frm (pk 12 [12]) (tk3 w (K.length + ts.length) 74 0 (i_ ln) (-1)) (ws_i (tk3 w (K.length + ts.length) 74 0 (i_ ln) (-1)) 12 0 12 (w_i (tk3 w (K.length + ts.length) 74 0 (i_ ln) (-1)) 12 0 12 + 1)) := frm_i rfl
  have hmk : K ++ mark ln b ts = K ++ annB ln b ts ++ [(tLin, ln, -1)] := by
    rw [mark_annB, if_neg h0, List.append_assoc]
  refine next _ ?_ ((hf1.sub (by decide)).tr (hf2.sub (by decide)))
  rw [hmk]
  refine ⟨ha.frm (hf2.sub (K' := [11, 12, 23]) (by decide)) p23, ?_, ?_⟩
  · rw [hf2.i rfl, hf1.i rfl, hJ.2.1, cntT_app (K := K ++ annB ln b ts)]
    rfl
  · simp only [Rii, Rgi, Rpi, Rai, Rbi, Rri, Rni, Rdi, Roi, Rti, Rzi, RCi, RSi]
    rw [if_pos (by decide), hf1.i rfl, hJ.2.2, cntL_app (K := K ++ annB ln b ts), i_1, i_add]
    rfl
end TQ
section TR
variable {E : zE} {L : Nat} {w : wS} {T : Nat → Int} {n p e k a m lm se ln : Nat} {ms SS : List (List Int)} {K : List (Tk × Nat × Int)} {Q : kx_Rs → wS → Prop}
/-- the scan is over behind a bad token -/
theorem t_over (hL : 200 ≤ L) {w0 : wS} {F R : List (Tk × Nat × Int)} {ts : List Tk} {b : Int} (hK : K.length + ts.length < 8000) (hJ : TK3 E w T n ms lm SS se (K ++ annB ln b (ts ++ [tBad]))) (hf : frm (pk 12 K14) w0 w) (hnb : ∀ t ∈ K ++ annB ln b ts, t.1 ≠ tBad) (hF : F = K ++ mark ln b (ts ++ [tBad]) ++ R) : eS (fun Q => zL_X13_scanAll_p116 E L Q (i_ ln) 0 (i_ b) (i_ K.length) w) (SA3 E w0 T n F) := by
  refine eS_l (fun Q h => zt_X13_scanAll_p116 (by omega) h) ?_
  simp only [zb_X13_scanAll_p116]
  rw [if_pos_fun trivial]
  refine t_line_end (by omega) (by simp; omega) hJ ?_
  intro w2 hJ2 hf2
  have hlen : (K ++ mark ln b (ts ++ [tBad])).length ≤ K.length + ts.length + 2 := by
    rw [mark_annB]
    split
    · simp
      omega
    · simp [annB_len]
      omega
  have fin : ∀ (ln' : Nat) w3, TK3 E w3 T n ms lm SS se (K ++ mark ln b (ts ++ [tBad])) → frm (pk 12 K14) w0 w3 → eS (fun Q => zL_X13_scanAll_p44 E L Q (i_ ln') 0 w3) (SA3 E w0 T n F) := by
    intro ln' w3 hJ3 hf3
    refine eS_l (fun Q h => zt_X13_scanAll_p44 (by omega) h) ?_
    simp only [zb_X13_scanAll_p44]
    have hmk : mark ln b (ts ++ [tBad]) = annB ln b ts ++ [(tBad, ln, if ts.length = 0 then b else -1)] ++ [(tLin, ln, -1)] := by rw [mark_annB, if_neg (show ¬ (ts ++ [tBad]).length = 0 by simp), annB_snoc]
    have go : eS (fun Q => zb_X13_scanAll_p347 E L Q (i_ ln') w3) (SA3 E w0 T n F) := by
      refine t_fin (by omega) (by omega) hJ3 hf3 (.inr ⟨K ++ annB ln b ts, ln, if ts.length = 0 then b else -1, (tLin, ln, -1) :: R, ?_, hnb, ?_⟩)
      · rw [hF, hmk]
        simp
      · rw [hmk]
        exact ⟨[(tLin, ln, -1), (tFin, ln', -1)], by simp⟩
    refine eS_if (fun _ => go) (fun _ => ?_)
    rw [if_pos_fun trivial]
    exact go
  simp only [zb_X13_scanAll_p320, zb_X13_scanAll_p344]
  refine eS_if (fun _ => fin ln w2 hJ2 (hf.tr (hf2.sub (by decide)))) (fun _ => ?_)
  rw [i_1, i_add, cN1]
  exact fin (ln + 1) _ (hJ2.at' (frm_i rfl)) ((hf.tr (hf2.sub (by decide))).tr (frm_i rfl))
/-- the tokens of a line -/
theorem t_line_toks (hL : 900 ≤ L) {w0 : wS} {F R : List (Tk × Nat × Int)} {b s : Nat} (hb : b < 1300) (he : e ≤ n) (hn : n ≤ 1280) (h10 : T e = 10) (hs : K.length ≤ 2 * s ∧ s ≤ e) (hin : ∀ q, s ≤ q → q < e → T q ≠ 10) (hnb : ∀ t ∈ K, t.1 ≠ tBad) (next : ∀ ts w' ms lm SS se, TK3 E w' T n ms lm SS se (K ++ mark ln b ts) → (∀ t ∈ ts, t ≠ tBad) → (K ++ mark ln b ts).length ≤ 2 * (e + 1) → frm (pk 12 K14) w0 w' → w_i w' 12 0 23 = i_ e → PB3 ms lm SS se e → F = K ++ mark ln b ts ++ R → eS (fun Q => zb_X13_scanAll_p320 E L Q (i_ ln) 1 w') (SA3 E w0 T n F)) : ∀ k p ts w ms lm SS se, e - p < k → s ≤ p → p ≤ e → ts.length ≤ p - s → (∀ t ∈ ts, t ≠ tBad) → TK3 E w T n ms lm SS se (K ++ annB ln b ts) → frm (pk 12 K14) w0 w → w_i w 12 0 23 = i_ p → PB3 ms lm SS se p → F = K ++ mark ln b (ts ++ tkl T n e k p) ++ R → eS (fun Q => zL_X13_scanAll_p116 E L Q (i_ ln) 1 (i_ b) (i_ K.length) w) (SA3 E w0 T n F) := by
  intro k
  induction k with
  | zero => intro p ts w ms lm SS se h1; omega
  | succ k ih =>
    intro p ts w ms lm SS se hk hsp hp hts htb hJ hf hat hP hF
    have hTT := hJ.1.1.1
    have hx := hTT.1.1
    have hr := hx.2.2 p
    have htx : w_i w 12 0 3 = i_ n := hTT.2.2.1
    have hTv := hTT.2.2.2.1
    have l2 := hTT.2.1.1.1
    refine eS_l (fun Q h => zt_X13_scanAll_p116 (by omega) h) ?_
    simp only [zb_X13_scanAll_p116]
    rw [if_neg_fun (by decide), htx, hat]
    have fin : p = e → eS (fun Q => zb_X13_scanAll_p292 E L Q (i_ ln) 1 (i_ K.length) w) (SA3 E w0 T n F) := by
      intro hpe
      subst hpe
      have htk : tkl T n p (k + 1) p = [] := by
        unfold tkl
        rw [if_pos (Nat.le_refl _)]
      rw [htk, List.append_nil] at hF
      refine t_line_end (by omega) (by omega) hJ ?_
      intro w2 hJ2 hf2
      refine next ts w2 ms lm SS se hJ2 htb ?_ (hf.tr (hf2.sub (by decide))) (by rw [hf2.i rfl]; exact hat) hP hF
      rw [mark_annB]
      split <;> simp [annB_len] <;> omega
    by_cases hnp : n ≤ p
    · rw [if_pos_fun ((i_le (by omega) (by omega)).mpr (by omega))]
      exact fin (by omega)
    rw [if_neg_fun (fun q => hnp (by have := (i_le (by omega) (by omega)).mp q; omega))]
    refine eS_and (by rw [l2]; exact i_inb (by omega) (by omega)) ?_
    simp only [i_nat' (show p < 2147483648 by omega), hTv p (by omega), show (10 : Int32) = i_ 10 from rfl, show (32 : Int32) = i_ 32 from rfl, show (45 : Int32) = i_ 45 from rfl, i_eqk (show -1000 ≤ T p ∧ T p ≤ 1000 by omega) (show (-1000 : Int) ≤ 10 by decide) (by decide), i_eqk (show -1000 ≤ T p ∧ T p ≤ 1000 by omega) (show (-1000 : Int) ≤ 32 by decide) (by decide), i_eqk (show -1000 ≤ T p ∧ T p ≤ 1000 by omega) (show (-1000 : Int) ≤ 45 by decide) (by decide)]
    by_cases hpe : p = e
    · rw [if_pos_fun (by rw [hpe, h10])]
      exact fin hpe
    have hne10 := hin p hsp (by omega)
    rw [if_neg_fun hne10]
    refine eS_and (by rw [l2]; exact i_inb (by omega) (by omega)) ?_
    by_cases h32 : T p = 32
    · rw [if_neg_fun (fun q => q h32), i_1, i_add, cN1]
      have htk : tkl T n e (k + 1) p = tkl T n e k (p + 1) := by
        conv => lhs; unfold tkl
        rw [if_neg (by omega), if_pos h32]
      rw [htk] at hF
      have hf1 : frm (pk 12 [23]) w (ws_i w 12 0 23 (i_ (p + 1 : Nat))) := frm_i rfl
      exact ih (p + 1) ts _ ms lm SS se (by omega) (by omega) (by omega) (by omega) htb (hJ.at' hf1) (hf.tr (hf1.sub (by decide))) (by simp only [Rii, Rgi, Rpi, Rai, Rbi, Rri, Rni, Rdi, Roi, Rti, Rzi, RCi, RSi]; rw [if_pos (by decide)]) (hP.up (by omega)) hF
    rw [if_pos_fun h32]
    refine eS_and (by rw [l2]; exact i_inb (by omega) (by omega)) ?_
    have htok : ¬ (T p = 45 ∧ T (p + 1) = 45) → eS (fun Q => zb_X13_scanAll_p234 E L Q (i_ ln) (i_ b) (i_ K.length) w) (SA3 E w0 T n F) := by
      intro hnc
      have htkl : tkl T n e (k + 1) p = if (tk1 T n p).1 = tBad then [tBad] else (tk1 T n p).1 :: tkl T n e k (tk1 T n p).2 := by
        conv => lhs; unfold tkl
        rw [if_neg (by omega), if_neg h32, if_neg hnc]
      simp only [zb_X13_scanAll_p234]
      refine eS_ce (t_scan (by omega) hTT hJ.1.1.2.1 hJ.1.1.2.2 hat (by omega) he h10 hP) ?_
      intro r w2 hle ⟨ms', lm', SS', se', ⟨hN2, hS2, hp1, hp2⟩, hf2, hr2, hv2, hend⟩
      subst hr2
      simp only [wk1, hle, forall_const]
      have hkd := @tk1_kd T n p
      have hJ2 : TKb E w2 T n ms' lm' SS' se' (K ++ annB ln b ts) := ⟨⟨hTT.frm hf2 (by decide), hN2, hS2⟩, by rw [hf2.i rfl]; exact hJ.1.2.1, fun k t hk => (hJ.1.2.2 k t hk).up (hf2.a rfl) (hf2.a rfl) (hf2.a rfl) (hf2.a rfl) hp1 hp2⟩
      have hm : w_i w2 12 0 6 = i_ (K.length + ts.length : Nat) := by
        rw [hJ2.2.1]
        simp [annB_len]
      have hlen : (K ++ annB ln b ts).length = K.length + ts.length := by simp [annB_len]
      -- the token is put down
      have put : ∀ (y : Int32) (hy : eS (fun Q => zL_X13_scanAll_p116 E L Q (i_ ln) y (i_ b) (i_ K.length) (ws_i (tk3 w2 (K.length + ts.length) (i_ (kd3 (tk1 T n p).1)) (w_i w2 12 0 24) (i_ ln) (i_ (if ts.length = 0 then (b : Int) else -1))) 12 0 11 (w_i (tk3 w2 (K.length + ts.length) (i_ (kd3 (tk1 T n p).1)) (w_i w2 12 0 24) (i_ ln) (i_ (if ts.length = 0 then (b : Int) else -1))) 12 0 11 + 1))) (SA3 E w0 T n F)), eS (fun Q => zb_X13_scanAll_p252 E L Q (i_ ln) (i_ b) (i_ K.length) (i_ (kd3 (tk1 T n p).1)) y w2) (SA3 E w0 T n F) := by
        intro y hy
        simp only [zb_X13_scanAll_p252, zb_X13_scanAll_p276, hm]
        by_cases h0 : ts.length = 0
        · rw [if_neg_fun (not_not_intro (by rw [h0]; rfl))]
          rw [if_pos h0] at hy
          refine eS_c (fun Q hq => t_token (by omega) hJ2.1.1.2.1 hm (by omega) hq) ?_
          intro hle
          simp only [wk0, hle, forall_const]
          exact hy
        · rw [if_pos_fun (c := ¬ (i_ ((K.length + ts.length : Nat) : Int) = i_ (K.length : Int))) (fun q => by have := (i_eq (by omega) (by omega)).mp q; omega)]
          rw [if_neg h0] at hy
          refine eS_c (fun Q hq => t_token (by omega) hJ2.1.1.2.1 hm (by omega) hq) ?_
          intro hle
          simp only [wk0, hle, forall_const]
          exact hy
      have hf3 : ∀ v, frm (pk 12 [6, 7, 8, 9, 10, 11]) w2 (ws_i (tk3 w2 (K.length + ts.length) (i_ (kd3 (tk1 T n p).1)) (w_i w2 12 0 24) (i_ ln) (i_ (if ts.length = 0 then (b : Int) else -1))) 12 0 11 v) := fun v => (tk3_f.sub (by decide)).tr (frm_i rfl)
      have hJ3 : TK3 E (ws_i (tk3 w2 (K.length + ts.length) (i_ (kd3 (tk1 T n p).1)) (w_i w2 12 0 24) (i_ ln) (i_ (if ts.length = 0 then (b : Int) else -1))) 12 0 11 (w_i (tk3 w2 (K.length + ts.length) (i_ (kd3 (tk1 T n p).1)) (w_i w2 12 0 24) (i_ ln) (i_ (if ts.length = 0 then (b : Int) else -1))) 12 0 11 + 1)) T n ms' lm' SS' se' (K ++ annB ln b (ts ++ [(tk1 T n p).1])) := by
        have ha := hJ2.add (ln := ln) (b := if ts.length = 0 then (b : Int) else -1) hv2
        rw [hlen, List.append_assoc, ← annB_snoc] at ha
        have hft : frm (pk 12 [6, 7, 8, 9, 10]) w2 (tk3 w2 (K.length + ts.length) (i_ (kd3 (tk1 T n p).1)) (w_i w2 12 0 24) (i_ ln) (i_ (if ts.length = 0 then (b : Int) else -1))) := tk3_f
        have hfu : frm (pk 12 [11]) (tk3 w2 (K.length + ts.length) (i_ (kd3 (tk1 T n p).1)) (w_i w2 12 0 24) (i_ ln) (i_ (if ts.length = 0 then (b : Int) else -1))) _ := frm_i (o := 0) (k := 11) (v := w_i (tk3 w2 (K.length + ts.length) (i_ (kd3 (tk1 T n p).1)) (w_i w2 12 0 24) (i_ ln) (i_ (if ts.length = 0 then (b : Int) else -1))) 12 0 11 + 1) rfl
        have h7 := @tk1_7 T n p
        refine ⟨ha.frm (hfu.sub (K' := [11, 12, 23]) (by decide)) p23, ?_, ?_⟩
        · simp only [Rii, Rgi, Rpi, Rai, Rbi, Rri, Rni, Rdi, Roi, Rti, Rzi, RCi, RSi]
          rw [if_pos (by decide), hft.i rfl, hf2.i rfl, hJ.2.1, cntT_app, cntT_app, cntT_annB, i_1, i_add]
          have e1 : cntT [((tk1 T n p).1, ln, (0 : Int))] = 1 := by simp [cntT, h7]
          rw [e1]
          congr 1
        · rw [hfu.i rfl, hft.i rfl, hf2.i rfl, hJ.2.2, cntL_app, cntL_app, cntL_annB]
          have e1 : cntL [((tk1 T n p).1, ln, (0 : Int))] = 0 := by
            simp [cntL]
            omega
          rw [e1]
          congr 1
      have hfA := (hf.tr (hf2.sub (K' := K14) (by decide))).tr ((hf3 (w_i (tk3 w2 (K.length + ts.length) (i_ (kd3 (tk1 T n p).1)) (w_i w2 12 0 24) (i_ ln) (i_ (if ts.length = 0 then (b : Int) else -1))) 12 0 11 + 1)).sub (K' := K14) (by decide))
      have hnb2 : ∀ t ∈ K ++ annB ln b ts, t.1 ≠ tBad := by
        intro t ht
        rcases List.mem_append.mp ht with h | h
        · exact hnb t h
        · cases ts with
          | nil => simp [annB] at h
          | cons t0 ts =>
            simp only [annB, List.mem_cons, List.mem_map] at h
            rcases h with h | ⟨x, hx, h⟩
            · subst h
              exact htb _ (by simp)
            · subst h
              exact htb _ (by simp [hx])
      by_cases hbad : (tk1 T n p).1 = tBad
      · rw [if_pos_fun (by rw [hbad]; rfl)]
        refine put 0 ?_
        rw [if_pos hbad] at htkl
        rw [hbad] at hJ3 hfA ⊢
        rw [htkl] at hF
        exact t_over (by omega) (by omega) hJ3 hfA hnb2 hF
      · rw [if_neg_fun (fun q => by rw [show (76 : Int32) = i_ 76 from rfl] at q; rcases hkd with h | h; exact hbad h; have := (i_eq (by omega) (by omega)).mp q; omega)]
        refine put 1 ?_
        rw [if_neg hbad] at htkl
        obtain ⟨g1, g2⟩ := hend hbad
        obtain ⟨g3, g4⟩ := tk1_end (T := T) (n := n) h10 he (show p < e by omega) hbad
        refine ih (tk1 T n p).2 (ts ++ [(tk1 T n p).1]) _ ms' lm' SS' se' (by omega) (by omega) g4 (by simp; omega) ?_ hJ3 hfA ?_ g2 ?_
        · intro t ht
          rcases List.mem_append.mp ht with h | h
          · exact htb t h
          · simp at h
            rw [h]
            exact hbad
        · rw [(hf3 _).i rfl]
          exact g1
        · rw [hF, htkl]
          simp
    by_cases h45 : T p = 45
    · rw [if_neg_fun (fun q => q h45)]
      refine eS_k (fun Q hq => t_here1 (by omega) hTT hat (by omega) hq) ?_
      have hr1 := hx.2.2 (p + 1)
      simp only [i_eqk (show -1000 ≤ T (p + 1) ∧ T (p + 1) ≤ 1000 by omega) (show (-1000 : Int) ≤ 45 by decide) (by decide)]
      by_cases h452 : T (p + 1) = 45
      · rw [if_neg_fun (fun q => q h452)]
        have htk : tkl T n e (k + 1) p = [] := by
          unfold tkl
          rw [if_neg (by omega), if_neg h32, if_pos ⟨h45, h452⟩]
        rw [htk, List.append_nil] at hF
        -- a remark up to the line's end
        have loop : ∀ d q w', q + d = e → s ≤ q → TK3 E w' T n ms lm SS se (K ++ annB ln b ts) → frm (pk 12 K14) w0 w' → w_i w' 12 0 23 = i_ q → eS (fun Q => zL_X13_scanAll_p196 E L Q (i_ ln) 1 (i_ b) (i_ K.length) w') (SA3 E w0 T n F) := by
          intro d
          induction d with
          | zero =>
            intro q w' hq hsq hJ' hf' hat'
            have hqe : q = e := by omega
            subst hqe
            have hTT' := hJ'.1.1.1
            have go : eS (fun Q => zL_X13_scanAll_p116 E L Q (i_ ln) 1 (i_ b) (i_ K.length) w') (SA3 E w0 T n F) := by
              refine eS_l (fun Q h => zt_X13_scanAll_p116 (by omega) h) ?_
              simp only [zb_X13_scanAll_p116]
              rw [if_neg_fun (by decide), hTT'.2.2.1, hat']
              have fin' : eS (fun Q => zb_X13_scanAll_p292 E L Q (i_ ln) 1 (i_ K.length) w') (SA3 E w0 T n F) := by
                refine t_line_end (by omega) (by omega) hJ' ?_
                intro w3 hJ3 hf3
                refine next ts w3 ms lm SS se hJ3 htb ?_ (hf'.tr (hf3.sub (by decide))) (by rw [hf3.i rfl]; exact hat') (hP.up (by omega)) hF
                rw [mark_annB]
                split <;> simp [annB_len] <;> omega
              by_cases hnq : n ≤ q
              · rw [if_pos_fun ((i_le (by omega) (by omega)).mpr (by omega))]
                exact fin'
              rw [if_neg_fun (fun z => hnq (by have := (i_le (by omega) (by omega)).mp z; omega))]
              refine eS_and (by rw [hTT'.2.1.1.1]; exact i_inb (by omega) (by omega)) ?_
              rw [i_nat' (show q < 2147483648 by omega), hTT'.2.2.2.1 q (by omega), h10, if_pos_fun (by decide)]
              exact fin'
            refine eS_l (fun Q h => zt_X13_scanAll_p196 (by omega) h) ?_
            simp only [zb_X13_scanAll_p196]
            rw [hTT'.2.2.1, hat']
            by_cases hnq : n ≤ q
            · rw [if_pos_fun ((i_le (by omega) (by omega)).mpr (by omega))]
              exact go
            rw [if_neg_fun (fun z => hnq (by have := (i_le (by omega) (by omega)).mp z; omega))]
            refine eS_and (by rw [hTT'.2.1.1.1]; exact i_inb (by omega) (by omega)) ?_
            rw [i_nat' (show q < 2147483648 by omega), hTT'.2.2.2.1 q (by omega), h10, if_pos_fun (by decide)]
            exact go
          | succ d ihd =>
            intro q w' hq hsq hJ' hf' hat'
            have hTT' := hJ'.1.1.1
            have hrq := hx.2.2 q
            have hq10 := hin q hsq (by omega)
            refine eS_l (fun Q h => zt_X13_scanAll_p196 (by omega) h) ?_
            simp only [zb_X13_scanAll_p196]
            rw [hTT'.2.2.1, hat']
            rw [if_neg_fun (fun z => by have := (i_le (by omega) (by omega)).mp z; omega)]
            refine eS_and (by rw [hTT'.2.1.1.1]; exact i_inb (by omega) (by omega)) ?_
            rw [i_nat' (show q < 2147483648 by omega), hTT'.2.2.2.1 q (by omega)]
            rw [if_neg_fun (fun z => hq10 (by rw [show (10 : Int32) = i_ 10 from rfl] at z; exact (i_eq (by omega) (by omega)).mp z))]
            rw [i_1, i_add, cN1]
            have hf1 : frm (pk 12 [23]) w' (ws_i w' 12 0 23 (i_ (q + 1 : Nat))) := frm_i rfl
            exact ihd (q + 1) _ (by omega) (by omega) (hJ'.at' hf1) (hf'.tr (hf1.sub (by decide))) (by simp only [Rii, Rgi, Rpi, Rai, Rbi, Rri, Rni, Rdi, Roi, Rti, Rzi, RCi, RSi]; rw [if_pos (by decide)])
        exact loop (e - p) p w (by omega) hsp hJ hf hat
      · rw [if_pos_fun h452]
        exact htok (fun q => h452 q.2)
    · rw [if_pos_fun h45]
      exact htok (fun q => h45 q.1)
theorem t_lines (hL : 1000 ≤ L) {w0 : wS} {F : List (Tk × Nat × Int)} (hn : n ≤ 1280) : ∀ (k s ln : Nat) (K : List (Tk × Nat × Int)) (w : wS) (ms : List (List Int)) (lm : Nat) (SS : List (List Int)) (se : Nat), n + 1 - s < k → s ≤ n → K.length ≤ 2 * s → (∀ t ∈ K, t.1 ≠ tBad) → TK3 E w T n ms lm SS se K → frm (pk 12 K14) w0 w → w_i w 12 0 23 = i_ s → PB3 ms lm SS se s → F = K ++ tks T n k s ln → eS (fun Q => zL_X13_scanAll_p44 E L Q (i_ ln) 1 w) (SA3 E w0 T n F) := by
  intro k
  induction k with
  | zero => intro s ln K w ms lm SS se h; omega
  | succ k ih =>
    intro s ln K w ms lm SS se hk hs hK hnb hJ hf hat hP hF
    have hTT := hJ.1.1.1
    have hx := hTT.1.1
    have l2 := hTT.2.1.1.1
    refine eS_l (fun Q h => zt_X13_scanAll_p44 (by omega) h) ?_
    simp only [zb_X13_scanAll_p44]
    rw [hTT.2.2.1, hat]
    have tfin : ∀ t ∈ K ++ [(tFin, ln, (-1 : Int))], t.1 ≠ tBad := by
      intro t ht
      rcases List.mem_append.mp ht with h | h
      · exact hnb t h
      · simp at h
        rw [h]
        show tFin ≠ tBad
        decide
    by_cases hns : n ≤ s
    · rw [if_pos_fun ((i_le (by omega) (by omega)).mpr (by omega))]
      have hks : tks T n (k + 1) s ln = [(tFin, ln, -1)] := by
        unfold tks
        rw [if_pos hns]
      rw [hks] at hF
      exact t_fin (by omega) (by omega) hJ hf (.inl ⟨hF.symm, tfin, hP.up (by omega)⟩)
    rw [if_neg_fun (fun q => hns (by have := (i_le (by omega) (by omega)).mp q; omega)), if_neg_fun (by decide)]
    have hele : nd nNL T n s ≤ n := nd_le rfl (by omega)
    have hsle : s ≤ nd nNL T n s := nd_ge rfl
    have h10 : T (nd nNL T n s) = 10 := by
      have := nd_at (p := nNL) (T := T) (n := n) (fun k hk => by rw [hx.2.1 k hk]; exact nNL_10) (a := s) rfl
      have h' : decide (T (nd nNL T n s) ≠ 10) = false := this
      simpa using h'
    have hin10 : ∀ q, s ≤ q → q < nd nNL T n s → T q ≠ 10 := by
      intro q h1 h2
      have := nd_in (p := nNL) (T := T) (n := n) (a := s) rfl q h1 h2
      unfold nNL at this
      simpa using this
    have hks : tks T n (k + 1) s ln = mark ln (nd isB T n s - s : Nat) (tkl T n (nd nNL T n s) (n + 1) (nd isB T n s)) ++ tks T n k (nd nNL T n s + 1) (if n ≤ nd nNL T n s then ln else ln + 1) := by
      conv => lhs; unfold tks
      rw [if_neg hns]
    rw [hks, ← List.append_assoc] at hF
    have hble : nd isB T n s ≤ nd nNL T n s := nd_le_e isB_10 h10 hele rfl hsle
    have hbge : s ≤ nd isB T n s := nd_ge rfl
    have toks : ∀ w', TK3 E w' T n ms lm SS se K → frm (pk 12 K14) w0 w' → w_i w' 12 0 23 = i_ (nd isB T n s : Nat) → eS (fun Q => zb_X13_scanAll_p102 E L Q (i_ ln) 1 (i_ s) w') (SA3 E w0 T n F) := by
      intro w' hJ' hf' hat'
      simp only [zb_X13_scanAll_p102]
      rw [hat', hJ'.1.2.1, i_sub, show ((nd isB T n s : Nat) : Int) - (s : Int) = ((nd isB T n s - s : Nat) : Int) by omega]
      refine t_line_toks (s := s) (R := tks T n k (nd nNL T n s + 1) (if n ≤ nd nNL T n s then ln else ln + 1)) (by omega) (by omega) hele hn h10 ⟨hK, hsle⟩ hin10 hnb ?_ (n + 1) (nd isB T n s) [] w' ms lm SS se (by omega) hbge hble (by simp) (by simp) (by simpa [annB] using hJ') hf' hat' (hP.up hbge) (by rw [hF]; simp)
      intro ts w2 ms2 lm2 SS2 se2 hJ2 htb2 hlen2 hf2 hat2 hP2 hF2
      simp only [zb_X13_scanAll_p320, zb_X13_scanAll_p344]
      have hTT2 := hJ2.1.1.1
      rw [hTT2.2.2.1, hat2]
      have hnb2 : ∀ t ∈ K ++ mark ln (nd isB T n s - s : Nat) ts, t.1 ≠ tBad := by
        intro t ht
        rcases List.mem_append.mp ht with h | h
        · exact hnb t h
        · cases ts with
          | nil => simp [mark] at h
          | cons t0 ts =>
            simp only [mark, List.mem_cons, List.mem_append, List.mem_map, List.mem_singleton] at h
            rcases h with h | ⟨x, hx, h⟩ | h
            · subst h
              exact htb2 _ (by simp)
            · subst h
              exact htb2 _ (by simp [hx])
            · rcases h with h | h
              · rw [h]
                show tLin ≠ tBad
                decide
              · exact absurd h List.not_mem_nil
      by_cases hne : n ≤ nd nNL T n s
      · rw [if_pos_fun ((i_le (by omega) (by omega)).mpr (by omega))]
        rw [if_pos hne] at hF2
        have hks2 : tks T n k (nd nNL T n s + 1) ln = [(tFin, ln, -1)] := by
          cases k with
          | zero => omega
          | succ k =>
            unfold tks
            rw [if_pos (by omega)]
        rw [hks2] at hF2
        refine eS_l (fun Q h => zt_X13_scanAll_p44 (by omega) h) ?_
        simp only [zb_X13_scanAll_p44]
        rw [hTT2.2.2.1, hat2, if_pos_fun ((i_le (by omega) (by omega)).mpr (by omega))]
        refine t_fin (by omega) (by omega) hJ2 hf2 (.inl ⟨hF2.symm, ?_, hP2.up (by omega)⟩)
        intro t ht
        rcases List.mem_append.mp ht with h | h
        · exact hnb2 t h
        · simp at h
          rw [h]
          show tFin ≠ tBad
          decide
      · rw [if_neg_fun (fun q => hne (by have := (i_le (by omega) (by omega)).mp q; omega))]
        rw [if_neg hne] at hF2
        rw [i_1, i_add, i_add, cN1, cN1]
        have hf1 : frm (pk 12 [23]) w2 (ws_i w2 12 0 23 (i_ (nd nNL T n s + 1 : Nat))) := frm_i rfl
        exact ih (nd nNL T n s + 1) (ln + 1) _ _ ms2 lm2 SS2 se2 (by omega) (by omega) (by omega) hnb2 (hJ2.at' hf1) (hf2.tr (hf1.sub (by decide))) (by simp only [Rii, Rgi, Rpi, Rai, Rbi, Rri, Rni, Rdi, Roi, Rti, Rzi, RCi, RSi]; rw [if_pos (by decide)]) (hP2.up (by omega)) hF2
    have loop : ∀ d j w', j + d = nd isB T n s → s ≤ j → TK3 E w' T n ms lm SS se K → frm (pk 12 K14) w0 w' → w_i w' 12 0 23 = i_ j → eS (fun Q => zL_X13_scanAll_p64 E L Q (i_ ln) 1 (i_ s) w') (SA3 E w0 T n F) := by
      intro d
      induction d with
      | zero =>
        intro j w' hj hsj hJ' hf' hat'
        have hjj : nd isB T n s = j := by omega
        have hTT' := hJ'.1.1.1
        have hr := hx.2.2 j
        refine eS_l (fun Q h => zt_X13_scanAll_p64 (by omega) h) ?_
        simp only [zb_X13_scanAll_p64]
        rw [hTT'.2.2.1, hat']
        have go := toks w' hJ' hf' (by rw [hjj]; exact hat')
        by_cases hnj : n ≤ j
        · rw [if_pos_fun ((i_le (by omega) (by omega)).mpr (by omega))]
          exact go
        rw [if_neg_fun (fun q => hnj (by have := (i_le (by omega) (by omega)).mp q; omega))]
        refine eS_and (by rw [hTT'.2.1.1.1]; exact i_inb (by omega) (by omega)) ?_
        have hstop : isB (T j) = false := by
          have := nd_at (p := isB) (T := T) (n := n) (fun k hk => by rw [hx.2.1 k hk]; exact isB_10) (a := s) rfl
          rw [hjj] at this
          exact this
        have h32 : ¬ T j = 32 := by
          unfold isB at hstop
          simpa using hstop
        rw [i_nat' (show j < 2147483648 by omega), hTT'.2.2.2.1 j (by omega)]
        rw [if_pos_fun (c := ¬ (i_ (T j) = 32)) (fun z => h32 (by rw [show (32 : Int32) = i_ 32 from rfl] at z; exact (i_eq (by omega) (by omega)).mp z))]
        exact go
      | succ d ihd =>
        intro j w' hj hsj hJ' hf' hat'
        have hTT' := hJ'.1.1.1
        have hin := nd_in (p := isB) (T := T) (n := n) (a := s) rfl j hsj (by omega)
        have h32 : T j = 32 := by
          unfold isB at hin
          simpa using hin
        refine eS_l (fun Q h => zt_X13_scanAll_p64 (by omega) h) ?_
        simp only [zb_X13_scanAll_p64]
        rw [hTT'.2.2.1, hat']
        rw [if_neg_fun (fun q => by have := (i_le (by omega) (by omega)).mp q; omega)]
        refine eS_and (by rw [hTT'.2.1.1.1]; exact i_inb (by omega) (by omega)) ?_
        rw [i_nat' (show j < 2147483648 by omega), hTT'.2.2.2.1 j (by omega), h32, if_neg_fun (by decide)]
        rw [i_1, i_add, cN1]
        have hf1 : frm (pk 12 [23]) w' (ws_i w' 12 0 23 (i_ (j + 1 : Nat))) := frm_i rfl
        exact ihd (j + 1) _ (by omega) (by omega) (hJ'.at' hf1) (hf'.tr (hf1.sub (by decide))) (by simp only [Rii, Rgi, Rpi, Rai, Rbi, Rri, Rni, Rdi, Roi, Rti, Rzi, RCi, RSi]; rw [if_pos (by decide)])
    exact loop (nd isB T n s - s) s w (by omega) (Nat.le_refl _) hJ hf hat
/-- the whole text in the twin -/
theorem t_scanAll (hL : 1100 ≤ L) (hT : TT E w T n) : eW w (fun Q => zw E L kt_M531 [.ref (w_adr E.2.1 12 0)] w Q) (SA3 E w T n (tks T n (n + 2) 0 1)) := by
  have hn := hT.1.1.1
  refine eW_of (A := fun Q => zb_X13_scanAll_p0 E L Q w) (fun Q h => zt_X13_scanAll_p0 (by omega) h) ?_
  simp only [zb_X13_scanAll_p0]
  have hf : frm (pk 12 [6, 11, 12, 13, 17, 18, 22, 23]) w (ws_i (ws_i (ws_i (ws_i (ws_i (ws_i (ws_i (ws_i w 12 0 6 0) 12 0 13 0) 12 0 17 0) 12 0 18 0) 12 0 22 0) 12 0 11 0) 12 0 12 0) 12 0 23 0) := (((((((frm_i rfl).tr (frm_i rfl)).tr (frm_i rfl)).tr (frm_i rfl)).tr (frm_i rfl)).tr (frm_i rfl)).tr (frm_i rfl)).tr (frm_i rfl)
  have hJ : TK3 E (ws_i (ws_i (ws_i (ws_i (ws_i (ws_i (ws_i (ws_i w 12 0 6 0) 12 0 13 0) 12 0 17 0) 12 0 18 0) 12 0 22 0) 12 0 11 0) 12 0 12 0) 12 0 23 0) T n [] 0 [] 0 [] := by
    refine ⟨⟨⟨hT.frm hf (by decide), ?_, ?_⟩, ?_, fun k t hk => by simp at hk⟩, ?_, ?_⟩
    · unfold NT3
      simp only [Rii, Rgi, Rpi, Rai, Rbi, Rri, Rni, Rdi, Roi, Rti, Rzi, RCi, RSi]
      simp
      rfl
    · unfold ST3
      simp only [Rii, Rgi, Rpi, Rai, Rbi, Rri, Rni, Rdi, Roi, Rti, Rzi, RCi, RSi]
      simp
      rfl
    all_goals
      simp only [Rii, Rgi, Rpi, Rai, Rbi, Rri, Rni, Rdi, Roi, Rti, Rzi, RCi, RSi]
      rfl
  have h := t_lines (w0 := ws_i (ws_i (ws_i (ws_i (ws_i (ws_i (ws_i (ws_i w 12 0 6 0) 12 0 13 0) 12 0 17 0) 12 0 18 0) 12 0 22 0) 12 0 11 0) 12 0 12 0) 12 0 23 0) (F := tks T n (n + 2) 0 1) (L := L) (by omega) hn (n + 2) 0 1 [] _ [] 0 [] 0 (by omega) (by omega) (by simp) (by simp) hJ frm.rf (by simp only [Rii, Rgi, Rpi, Rai, Rbi, Rri, Rni, Rdi, Roi, Rti, Rzi, RCi, RSi]; rfl) ⟨⟨by simp, by omega⟩, by simp, by omega⟩ (by simp)
  refine eS_mono h ?_
  rintro r w3 ⟨h1, ms, lm, SS, se, K, h2, h3, h4, h5⟩ hle3
  exact ⟨h1, ms, lm, SS, se, K, h2, h3, h4, (hf.sub (by decide)).tr h5⟩
end TR
