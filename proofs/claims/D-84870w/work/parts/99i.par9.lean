/-! ===== PARSERS, part 9: steps that both do ===== -/
section PIF
variable {gc gt : pQ} {Φ : kx_Rs → wS → kx_Rs → wS → Prop} {c : Prop} {A B : pQ}
theorem PS_lp [Decidable c] (h : c) (k : PS A gt Φ) : PS (fun Q => if c then A Q else B Q) gt Φ := PS_lif (fun _ => k) (fun h' => absurd h h')
theorem PS_ln [Decidable c] (h : ¬ c) (k : PS B gt Φ) : PS (fun Q => if c then A Q else B Q) gt Φ := PS_lif (fun h' => absurd h' h) (fun _ => k)
theorem PS_rp [Decidable c] (h : c) (k : PS gc A Φ) : PS gc (fun Q => if c then A Q else B Q) Φ := PS_rif (fun _ => k) (fun h' => absurd h h')
theorem PS_rn [Decidable c] (h : ¬ c) (k : PS gc B Φ) : PS gc (fun Q => if c then A Q else B Q) Φ := PS_rif (fun h' => absurd h' h) (fun _ => k)
theorem eS_p [Decidable c] {P : kx_Rs → wS → Prop} (h : c) (k : eS A P) : eS (fun Q => if c then A Q else B Q) P := eS_if (fun _ => k) (fun h' => absurd h h')
theorem eS_n [Decidable c] {P : kx_Rs → wS → Prop} (h : ¬ c) (k : eS B P) : eS (fun Q => if c then A Q else B Q) P := eS_if (fun h' => absurd h' h) (fun _ => k)
end PIF
section DDS
variable {ex et : List Nat} {S0 : pS} {D : pD} {K : pK} {p q o o' m N n : Nat} {w t w' : wS} {al : List Nat} {nu : pNz} {tn : Nat → Prop} {br : Bool} {lo : Int} {E : zE} {L : Nat}
theorem HY.dd (h : HY D K ex et S0 (w, t, al, m, N, nu, tn) p q o o') (hd : DDx K S0 w') (hN : N ≤ 11000) (h5 : kk K q ≠ 75) (h6 : kk K q ≠ 76) (h76 : kk K (q + 1) = 76) : DDs D K S0 w' (nx3 t q) := by
  have hta := h.1.ta.nxt h5 h6
  have hl := h.1.ta.1.2.bad hta.2.2 h76
  refine ⟨⟨hd, h.1.krg⟩, h.2.1.2.tr TX_nx3, ?_, ?_, N, ?_, hN⟩
  · rw [← hl]
    exact hta
  · rw [← hl]
    exact h76
  · unfold nx3
    rw [Rii, if_neg (by decide)]
    exact h.1.2.2.2.1.1
/-- the twin has come to a bad token -/
theorem HY.dds (h : HY D K ex et S0 (w, t, al, m, N, nu, tn) p q o o') (hd : DDx K S0 w') (hN : N ≤ 11000) (h76 : kk K q = 76) : DDs D K S0 w' t := by
  have hta := h.1.ta
  have hl := hta.1.2.bad hta.2.2 h76
  refine ⟨⟨hd, h.1.krg⟩, h.2.1.2, ?_, ?_, N, h.1.2.2.2.1.1, hN⟩
  · rw [← hl]
    exact hta
  · rw [← hl]
    exact h76
theorem HY.ddx (h : HY D K ex et S0 (w, t, al, m, N, nu, tn) p q o o') (hp : p + 1 < K.length) (h76 : kk K (p + 1) = 76) (hf : FX w w') : DDx K S0 (fl2 w' 1 (kln K (p + 1))) := ⟨((h.2.1.1.tr hf).tr FX_fl2).y, fl2_k, by rw [fl2_l, ← h.1.ta.1.2.bad hp h76]⟩
theorem DDs.thr (h : DDs D K S0 w' t) : eS (fun Q => Q (.inr HT_) (fl3 t 1 (kln K (K.length - 1)))) (fun r' t' => TLP D K S0.1 S0.2.1 br lo w' r' t') := TLP_thr h.1.1.1 (h.2.1.tr TX_fl3) (by rw [fl3_k]; exact h.1.1.2.1) (by rw [fl3_l]; exact h.1.1.2.2)
theorem DDs.ret (h : DDs D K S0 w' t) {v : Int} {r : kx_Rs} (hr : r = rr_ br (i_ v)) (hv : lo ≤ v ∧ v < 14000) : eS (fun Q => Q r t) (fun r' t' => TLP D K S0.1 S0.2.1 br lo w' r' t') := TLP_ded h.1.1.1 h.2.1 hr hv h.1.1.2.1 h.1.1.2.2 h.2.2
theorem DDs.ta (h : DDs D K S0 w' t) {k : Nat} {v : Int32} (hk : kT3 k = true) : DDs D K S0 w' (ws_a t 12 0 k n v) := ⟨h.1, h.2.1.tr (TX_ta hk), h.2.2.ta hk⟩
theorem DDs.to (h : DDs D K S0 w' t) {u : Int32} : DDs D K S0 w' (ws_i t 12 0 38 u) := ⟨h.1, h.2.1.tr (frm_i rfl), h.2.2.op⟩
theorem dd_e {A : (kx_Rs → wS → Prop) → Int32 → wS → Prop} (h : DDs D K S0 w' t) (hL : 400 ≤ L) : eS (fun Q => zw E L kt_M393 [.ref (w_adr E.2.1 12 0)] t (wk1 (A Q) (fun e w => Q (.inr e) w))) (fun r' t' => TLP D K S0.1 S0.2.1 br lo w' r' t') := eS_x1 (fun Q hq => t_e_bad (by omega) h.2.2.1 h.1.2 h.2.2.2.1 hq) h.thr
theorem dd_operand {A : (kx_Rs → wS → Prop) → Int32 → wS → Prop} (h : DDs D K S0 w' t) (hL : 400 ≤ L) : eS (fun Q => zw E L kt_M498 [.ref (w_adr E.2.1 12 0)] t (wk1 (A Q) (fun e w => Q (.inr e) w))) (fun r' t' => TLP D K S0.1 S0.2.1 br lo w' r' t') := eS_x1 (fun Q hq => t_operand_bad (by omega) h.2.2.1 h.1.2 h.2.2.2.1 hq) h.thr
theorem dd_elem {A : (kx_Rs → wS → Prop) → Int32 → wS → Prop} (h : DDs D K S0 w' t) (hL : 400 ≤ L) : eS (fun Q => zw E L kt_M396 [.ref (w_adr E.2.1 12 0)] t (wk1 (A Q) (fun e w => Q (.inr e) w))) (fun r' t' => TLP D K S0.1 S0.2.1 br lo w' r' t') := eS_x1 (fun Q hq => t_elem_bad (by omega) h.2.2.1 h.1.2 h.2.2.2.1 hq) h.thr
theorem dd_list {A : (kx_Rs → wS → Prop) → Int32 → wS → Prop} (h : DDs D K S0 w' t) (hL : 400 ≤ L) : eS (fun Q => zw E L kt_M459 [.ref (w_adr E.2.1 12 0)] t (wk1 (A Q) (fun e w => Q (.inr e) w))) (fun r' t' => TLP D K S0.1 S0.2.1 br lo w' r' t') := eS_x1 (fun Q hq => t_list_bad (by omega) h.2.2.1 h.1.2 h.2.2.2.1 hq) h.thr
theorem dd_elements {A : (kx_Rs → wS → Prop) → Int32 → wS → Prop} (h : DDs D K S0 w' t) (hL : 400 ≤ L) : eS (fun Q => zw E L kt_M398 [.ref (w_adr E.2.1 12 0)] t (wk1 (A Q) (fun e w => Q (.inr e) w))) (fun r' t' => TLP D K S0.1 S0.2.1 br lo w' r' t') := eS_x1 (fun Q hq => t_elements_bad (by omega) h.2.2.1 h.1.2 h.2.2.2.1 hq) h.thr
theorem dd_process {A : (kx_Rs → wS → Prop) → Int32 → wS → Prop} {d : Nat} (h : DDs D K S0 w' t) (hd : d ≤ 1000) (hL : 400 ≤ L) : eS (fun Q => zw E L kt_M514 [.ref (w_adr E.2.1 12 0), .int (i_ d)] t (wk1 (A Q) (fun e w => Q (.inr e) w))) (fun r' t' => TLP D K S0.1 S0.2.1 br lo w' r' t') := eS_x1 (fun Q hq => t_process_bad (by omega) h.2.2.1 h.1.2 hd h.2.2.2.1 hq) h.thr
theorem DDs.if1 {t : wS} {α : Type} {a b : α} (h : DDs D K S0 w' t) : (if kk K (K.length - 1) = 76 then a else b) = a := if_pos h.2.2.2.1
theorem dd_wantName {A : (kx_Rs → wS → Prop) → Int32 → wS → Prop} (h : DDs D K S0 w' t) (hL : 400 ≤ L) : eS (fun Q => zw E L kt_M601 [.ref (w_adr E.2.1 12 0)] t (wk1 (A Q) (fun e w => Q (.inr e) w))) (fun r' t' => TLP D K S0.1 S0.2.1 br lo w' r' t') := eS_x1 (fun Q hq => t_wantName (by omega) h.2.2.1 h.1.2 (fun e => by have := h.2.2.2.1; omega) (fun _ => by rw [h.if1]; exact hq)) h.thr
theorem dd_want {A : (kx_Rs → wS → Prop) → wS → Prop} {x : Int32} {v : Int} (h : DDs D K S0 w' t) (hL : 400 ≤ L) (hx : x = i_ v) (hv : 0 ≤ v ∧ v < 76) : eS (fun Q => zw E L kt_M600 [.ref (w_adr E.2.1 12 0), .int x] t (wk0 (A Q) (fun e w => Q (.inr e) w))) (fun r' t' => TLP D K S0.1 S0.2.1 br lo w' r' t') := eS_x0 (fun Q hq => t_want (by omega) h.2.2.1 h.1.2 hx (by omega) (fun e => by have := h.2.2.2.1; omega) (fun _ => by rw [h.if1]; exact hq)) h.thr
theorem dd_endOfLine {A : (kx_Rs → wS → Prop) → wS → Prop} (h : DDs D K S0 w' t) (hL : 400 ≤ L) : eS (fun Q => zw E L kt_M400 [.ref (w_adr E.2.1 12 0)] t (wk0 (A Q) (fun e w => Q (.inr e) w))) (fun r' t' => TLP D K S0.1 S0.2.1 br lo w' r' t') := eS_x0 (fun Q hq => t_endOfLine (by omega) h.2.2.1 h.1.2 (fun e => by have := h.2.2.2.1; omega) (fun _ => by rw [h.if1]; exact hq)) h.thr
theorem dd_lineAt {A : (kx_Rs → wS → Prop) → wS → Prop} {d : Nat} {x : Int32} {how : Int} (h : DDs D K S0 w' t) (hL : 400 ≤ L) (hd : d ≤ 1000) (hx : x = i_ how) (hh : 0 ≤ how ∧ how ≤ 9) : eS (fun Q => zw E L kt_M458 [.ref (w_adr E.2.1 12 0), .int (i_ d), .int x] t (wk0 (A Q) (fun e w => Q (.inr e) w))) (fun r' t' => TLP D K S0.1 S0.2.1 br lo w' r' t') := by
  have hb : bBe how (kk K (K.length - 1)) = false := by
    rw [h.2.2.2.1]
    have hc : how = 0 ∨ how = 1 ∨ how = 2 ∨ how = 3 ∨ how = 4 ∨ how = 5 ∨ how = 6 ∨ how = 7 ∨ how = 8 ∨ how = 9 := by omega
    rcases hc with e | e | e | e | e | e | e | e | e | e <;> subst e <;> rfl
  exact eS_x0 (fun Q hq => t_lineAt (by omega) h.2.2.1 h.1.2 hd hx hh (fun _ => by rw [h.if1]; exact hq) (fun e => by rw [hb] at e; simp at e) (fun e => by rw [hb] at e; simp at e)) h.thr
end DDS
section BST
variable {ex et : List Nat} {S0 : pS} {D : pD} {K : pK} {p p0 q o o' oA m N n : Nat} {w t w' : wS} {al : List Nat} {nu : pNz} {tn : Nat → Prop} {bl br : Bool} {lo : Int} {G : pG} {E' : zE} {L L' : Nat} {gt : pQ}
theorem HY.p1 (h : HY D K ex et S0 (w, t, al, m, N, nu, tn) p q o o') (h5 : kk K p ≠ 75) : p + 1 < K.length := h.1.ca.1.2.nl h.1.ca.2.2 h5 h.1.2.1.1.2.2.1
/-- both throw -/
theorem TLP_two {no : Int} (h : HY D K ex et S0 (w, t, al, m, N, nu, tn) p p o o') (hf : FX w w') {t' : wS} (ht : TX t t') (h76 : kk K p ≠ 76) : eS (fun Q => Q (.inr HT_) (fl3 t' (if kk K p = 76 then 1 else no) (kln K p))) (fun r' t'' => TLP D K S0.1 S0.2.1 br lo (fl2 w' no (kln K p)) r' t'') := by
  rw [if_neg h76]
  exact TLP_thr ((h.2.1.1.tr hf).tr FX_fl2).y ((h.2.1.2.tr ht).tr TX_fl3) (by rw [fl2_k, fl3_k]) (by rw [fl2_l, fl3_l])
/-- a word or sign that both want -/
theorem PS_exw {A B : (kx_Rs → wS → Prop) → wS → Prop} {x x' : Int32} {c v : Int} (hL : 400 ≤ L) (hL' : 400 ≤ L') (hN : N ≤ 11000) (hH : HY D K ex et S0 (w, t, al, m, N, nu, tn) p p o o') (hx : x = i_ c) (hc : wcd c v) (hx' : x' = i_ v)
    (k : kk K p = v → HY D K ex et S0 (nx w p, nx3 t p, al, m, N, nu, tn) (p + 1) (p + 1) o o' → PS (fun Q => A Q (nx w p)) (fun Q => B Q (nx3 t p)) (PR D K ex et S0 p0 oA bl br lo G))
    (kd : ∀ w', DDs D K S0 w' (nx3 t p) → eS (fun Q => B Q (nx3 t p)) (fun r' t' => TLP D K S0.1 S0.2.1 br lo w' r' t')) :
    PS (fun Q => zw D.1 L kt_M176 [.ref (w_adr D.1.2.1 4 0), .int x] w (wk0 (fun w1 => wle w w1 → A Q w1) (fun e w => Q (.inr e) w))) (fun Q => zw E' L' kt_M600 [.ref (w_adr E'.2.1 12 0), .int x'] t (wk0 (fun w1 => wle t w1 → B Q w1) (fun e w => Q (.inr e) w))) (PR D K ex et S0 p0 oA bl br lo G) := by
  have hca := hH.1.ca
  have hta := hH.1.ta
  have hal := hH.1.2.1.1.2.2.1
  have hvr : 0 ≤ v ∧ v ≤ 67 := by unfold wcd at hc; omega
  by_cases e : kk K p = v
  · have hp1 := hH.p1 (by omega)
    by_cases e2 : kk K (p + 1) = 76
    · refine PS_lx0 (fun Q hq => c_expect (by omega) hca hx hc (fun h => absurd e h) (fun _ h => absurd e2 h) (fun _ _ => hq)) (PR_stop ?_)
      refine eS_0 (fun Q hq => t_want (by omega) hta hH.1.krg hx' (by omega) (fun _ => hq) (fun h => absurd e h)) ?_
      exact kd _ (hH.dd (hH.ddx hp1 e2 FX_nx) hN (by omega) hal e2)
    · refine PS_l0 (fun Q hq => c_expect (by omega) hca hx hc (fun h => absurd e h) (fun _ _ => hq) (fun _ h => absurd h e2)) ?_
      refine PS_r0 (fun Q hq => t_want (by omega) hta hH.1.krg hx' (by omega) (fun _ => hq) (fun h => absurd e h)) ?_
      exact k e ((hH.cn (by omega) e2).tnx (by omega) hal)
  · refine PS_lx0 (fun Q hq => c_expect (by omega) hca hx hc (fun _ => hq) (fun h => absurd h e) (fun h => absurd h e)) (PR_stop ?_)
    exact eS_x0 (fun Q hq => t_want (by omega) hta hH.1.krg hx' (by omega) (fun h => absurd h e) (fun _ => hq)) (TLP_two hH FX.rf frm.rf hal)
/-- a bracket that both want -/
theorem PS_lvw {A B : (kx_Rs → wS → Prop) → wS → Prop} {x x' : Int32} {c v : Int} (hL : 400 ≤ L) (hL' : 400 ≤ L') (hN : N ≤ 11000) (hH : HY D K ex et S0 (w, t, al, m, N, nu, tn) p p (o + 1) o') (hx : x = i_ c) (hc : wcd c v) (hx' : x' = i_ v)
    (k : kk K p = v → HY D K ex et S0 (ws_i (nx w p) 4 0 4 (i_ o), nx3 t p, al, m, N, nu, tn) (p + 1) (p + 1) o o' → PS (fun Q => A Q (ws_i (nx w p) 4 0 4 (i_ o))) (fun Q => B Q (nx3 t p)) (PR D K ex et S0 p0 oA bl br lo G))
    (kd : ∀ w', DDs D K S0 w' (nx3 t p) → eS (fun Q => B Q (nx3 t p)) (fun r' t' => TLP D K S0.1 S0.2.1 br lo w' r' t')) :
    PS (fun Q => zw D.1 L kt_M188 [.ref (w_adr D.1.2.1 4 0), .int x] w (wk0 (fun w1 => wle w w1 → A Q w1) (fun e w => Q (.inr e) w))) (fun Q => zw E' L' kt_M600 [.ref (w_adr E'.2.1 12 0), .int x'] t (wk0 (fun w1 => wle t w1 → B Q w1) (fun e w => Q (.inr e) w))) (PR D K ex et S0 p0 oA bl br lo G) := by
  have hca := hH.1.ca
  have hta := hH.1.ta
  have hal := hH.1.2.1.1.2.2.1
  have ho := hH.1.2.1.1.2.2.2
  have hvr : 0 ≤ v ∧ v ≤ 67 := by unfold wcd at hc; omega
  by_cases e : kk K p = v
  · have hp1 := hH.p1 (by omega)
    by_cases e2 : kk K (p + 1) = 76
    · refine PS_lx0 (fun Q hq => c_leave (o := o) (by omega) hca ho.1 hx hc (fun h => absurd e h) (fun _ h => absurd e2 h) (fun _ _ => hq)) (PR_stop ?_)
      refine eS_0 (fun Q hq => t_want (by omega) hta hH.1.krg hx' (by omega) (fun _ => hq) (fun h => absurd e h)) ?_
      exact kd _ (hH.dd (hH.ddx hp1 e2 FX_nx) hN (by omega) hal e2)
    · refine PS_l0 (fun Q hq => c_leave (o := o) (by omega) hca ho.1 hx hc (fun h => absurd e h) (fun _ _ => hq) (fun _ h => absurd h e2)) ?_
      refine PS_r0 (fun Q hq => t_want (by omega) hta hH.1.krg hx' (by omega) (fun _ => hq) (fun h => absurd e h)) ?_
      exact k e (((hH.cn (by omega) e2).tnx (by omega) hal).co (by omega))
  · refine PS_lx0 (fun Q hq => c_leave (o := o) (by omega) hca ho.1 hx hc (fun _ => hq) (fun h => absurd h e) (fun h => absurd h e)) (PR_stop ?_)
    exact eS_x0 (fun Q hq => t_want (by omega) hta hH.1.krg hx' (by omega) (fun h => absurd h e) (fun _ => hq)) (TLP_two hH FX.rf frm.rf hal)
/-- the end of a line -/
theorem PS_elw {A B : (kx_Rs → wS → Prop) → wS → Prop} (hL : 400 ≤ L) (hL' : 400 ≤ L') (hN : N ≤ 11000) (hH : HY D K ex et S0 (w, t, al, m, N, nu, tn) p p o o')
    (k : kk K p = 74 → HY D K ex et S0 (nx w p, nx3 t p, al, m, N, nu, tn) (p + 1) (p + 1) o o' → PS (fun Q => A Q (nx w p)) (fun Q => B Q (nx3 t p)) (PR D K ex et S0 p0 oA bl br lo G))
    (kd : ∀ w', DDs D K S0 w' (nx3 t p) → eS (fun Q => B Q (nx3 t p)) (fun r' t' => TLP D K S0.1 S0.2.1 br lo w' r' t')) :
    PS (fun Q => zw D.1 L kt_M174 [.ref (w_adr D.1.2.1 4 0)] w (wk0 (fun w1 => wle w w1 → A Q w1) (fun e w => Q (.inr e) w))) (fun Q => zw E' L' kt_M400 [.ref (w_adr E'.2.1 12 0)] t (wk0 (fun w1 => wle t w1 → B Q w1) (fun e w => Q (.inr e) w))) (PR D K ex et S0 p0 oA bl br lo G) := by
  have hca := hH.1.ca
  have hta := hH.1.ta
  have hal := hH.1.2.1.1.2.2.1
  by_cases e : kk K p = 74
  · have hp1 := hH.p1 (by omega)
    by_cases e2 : kk K (p + 1) = 76
    · refine PS_lx0 (fun Q hq => c_endLine (by omega) hca (fun h => absurd e h) (fun _ h => absurd e2 h) (fun _ _ => hq)) (PR_stop ?_)
      refine eS_0 (fun Q hq => t_endOfLine (by omega) hta hH.1.krg (fun _ => hq) (fun h => absurd e h)) ?_
      exact kd _ (hH.dd (hH.ddx hp1 e2 FX_nx) hN (by omega) hal e2)
    · refine PS_l0 (fun Q hq => c_endLine (by omega) hca (fun h => absurd e h) (fun _ _ => hq) (fun _ h => absurd h e2)) ?_
      refine PS_r0 (fun Q hq => t_endOfLine (by omega) hta hH.1.krg (fun _ => hq) (fun h => absurd e h)) ?_
      exact k e ((hH.cn (by omega) e2).tnx (by omega) hal)
  · refine PS_lx0 (fun Q hq => c_endLine (by omega) hca (fun _ => hq) (fun h => absurd h e) (fun h => absurd h e)) (PR_stop ?_)
    exact eS_x0 (fun Q hq => t_endOfLine (by omega) hta hH.1.krg (fun h => absurd h e) (fun _ => hq)) (TLP_two hH FX.rf frm.rf hal)
/-- the names of both at a token -/
theorem SY.nm {S : pS} (h : SY D K S p p o o') (h70 : kk K p = 70) : nmr D (w_a S.1 1 0 3 p) (w_a S.2.1 12 0 8 p) := by
  have hk := h.ca.kkc
  have h1 : (kA K p).1.1 = 1 := by omega
  have hc := h.ca.row.2.1
  have ht := h.ta.row.2.1
  unfold CV at hc
  unfold vl3 at ht
  rw [h1] at hc ht
  obtain ⟨c, c1, c2, c3, c4⟩ := hc
  obtain ⟨c', d1, d2, d3⟩ := ht
  have := h.1.2
  exact ⟨c, c', ⟨c4, d3⟩, ⟨c2, d1, by omega, by omega⟩, c3.trans d2.symm⟩
/-- a name that both want -/
theorem PS_nmw {A B : (kx_Rs → wS → Prop) → Int32 → wS → Prop} (hL : 400 ≤ L) (hL' : 400 ≤ L') (hN : N ≤ 11000) (hH : HY D K ex et S0 (w, t, al, m, N, nu, tn) p p o o')
    (k : kk K p = 70 → HY D K ex et S0 (nx w p, nx3 t p, al, m, N, nu, tn) (p + 1) (p + 1) o o' → nmr D (w_a w 1 0 3 p) (w_a t 12 0 8 p) → PS (fun Q => A Q (w_a w 1 0 3 p) (nx w p)) (fun Q => B Q (w_a t 12 0 8 p) (nx3 t p)) (PR D K ex et S0 p0 oA bl br lo G))
    (kd : ∀ w', DDs D K S0 w' (nx3 t p) → eS (fun Q => B Q (w_a t 12 0 8 p) (nx3 t p)) (fun r' t' => TLP D K S0.1 S0.2.1 br lo w' r' t')) :
    PS (fun Q => zw D.1 L kt_M193 [.ref (w_adr D.1.2.1 4 0)] w (wk1 (fun v w1 => wle w w1 → A Q v w1) (fun e w => Q (.inr e) w))) (fun Q => zw E' L' kt_M601 [.ref (w_adr E'.2.1 12 0)] t (wk1 (fun v w1 => wle t w1 → B Q v w1) (fun e w => Q (.inr e) w))) (PR D K ex et S0 p0 oA bl br lo G) := by
  have hca := hH.1.ca
  have hta := hH.1.ta
  have hal := hH.1.2.1.1.2.2.1
  by_cases e : kk K p = 70
  · have hp1 := hH.p1 (by omega)
    by_cases e2 : kk K (p + 1) = 76
    · refine PS_lx1 (fun Q hq => c_name (by omega) hca (fun h => absurd e h) (fun _ h => absurd e2 h) (fun _ _ => hq)) (PR_stop ?_)
      refine eS_1 (fun Q hq => t_wantName (by omega) hta hH.1.krg (fun _ => hq) (fun h => absurd e h)) ?_
      exact kd _ (hH.dd (hH.ddx hp1 e2 FX_nx) hN (by omega) hal e2)
    · refine PS_l1 (fun Q hq => c_name (by omega) hca (fun h => absurd e h) (fun _ _ => hq) (fun _ h => absurd h e2)) ?_
      refine PS_r1 (fun Q hq => t_wantName (by omega) hta hH.1.krg (fun _ => hq) (fun h => absurd e h)) ?_
      exact k e ((hH.cn (by omega) e2).tnx (by omega) hal) (hH.1.nm e)
  · refine PS_lx1 (fun Q hq => c_name (by omega) hca (fun _ => hq) (fun h => absurd h e) (fun h => absurd h e)) (PR_stop ?_)
    exact eS_x1 (fun Q hq => t_wantName (by omega) hta hH.1.krg (fun h => absurd h e) (fun _ => hq)) (TLP_two hH FX.rf frm.rf hal)
/-- something is open -/
theorem PS_enw {A B : (kx_Rs → wS → Prop) → wS → Prop} (hL : 400 ≤ L) (hL' : 400 ≤ L') (hN : N ≤ 11000) (hH : HY D K ex et S0 (w, t, al, m, N, nu, tn) p p o o) (h5 : kk K p ≠ 75)
    (k : o < 20 → HY D K ex et S0 (nx (ws_i w 4 0 4 (i_ (o + 1 : Nat))) p, nx3 (ws_i t 12 0 38 (i_ (o + 1 : Nat))) p, al, m, N, nu, tn) (p + 1) (p + 1) (o + 1) (o + 1) → PS (fun Q => A Q (nx (ws_i w 4 0 4 (i_ (o + 1 : Nat))) p)) (fun Q => B Q (nx3 (ws_i t 12 0 38 (i_ (o + 1 : Nat))) p)) (PR D K ex et S0 p0 oA bl br lo G))
    (kd : ∀ w', DDs D K S0 w' (nx3 (ws_i t 12 0 38 (i_ (o + 1 : Nat))) p) → eS (fun Q => B Q (nx3 (ws_i t 12 0 38 (i_ (o + 1 : Nat))) p)) (fun r' t' => TLP D K S0.1 S0.2.1 br lo w' r' t')) :
    PS (fun Q => zw D.1 L kt_M175 [.ref (w_adr D.1.2.1 4 0)] w (wk0 (fun w1 => wle w w1 → A Q w1) (fun e w => Q (.inr e) w))) (fun Q => zw E' L' kt_M497 [.ref (w_adr E'.2.1 12 0)] t (wk0 (fun w1 => wle t w1 → B Q w1) (fun e w => Q (.inr e) w))) (PR D K ex et S0 p0 oA bl br lo G) := by
  have hca := hH.1.ca
  have hta := hH.1.ta
  have hal := hH.1.2.1.1.2.2.1
  have ho := hH.1.2.1.1.2.2.2
  have ho' := hH.1.2.1.2.2.2
  have hp1 := hH.p1 h5
  by_cases e : o = 20
  · refine PS_lx0 (fun Q hq => c_enter (o := o) (by omega) hca ho.1 ho.2 h5 hal (fun _ => hq) (fun h => by omega) (fun h => by omega)) (PR_stop ?_)
    exact eS_x0 (fun Q hq => t_opens (o := o) (by omega) hta hH.1.krg ho'.1 ho'.2 (fun h => by omega) (fun _ => hq)) (TLP_two hH FX.rf frm.rf hal)
  · have ho20 : o < 20 := by omega
    have hH1 : HY D K ex et S0 (ws_i w 4 0 4 (i_ (o + 1 : Nat)), ws_i t 12 0 38 (i_ (o + 1 : Nat)), al, m, N, nu, tn) p p (o + 1) (o + 1) := (hH.co (by omega)).to (by omega)
    by_cases e2 : kk K (p + 1) = 76
    · refine PS_lx0 (fun Q hq => c_enter (o := o) (by omega) hca ho.1 ho.2 h5 hal (fun h => by omega) (fun _ h => absurd e2 h) (fun _ _ => hq)) (PR_stop ?_)
      refine eS_0 (fun Q hq => t_opens (o := o) (by omega) hta hH.1.krg ho'.1 ho'.2 (fun _ => hq) (fun h => by omega)) ?_
      exact kd _ (hH1.dd (hH1.ddx hp1 e2 FX_nx) hN h5 hal e2)
    · refine PS_l0 (fun Q hq => c_enter (o := o) (by omega) hca ho.1 ho.2 h5 hal (fun h => by omega) (fun _ _ => hq) (fun _ h => absurd h e2)) ?_
      refine PS_r0 (fun Q hq => t_opens (o := o) (by omega) hta hH.1.krg ho'.1 ho'.2 (fun _ => hq) (fun h => by omega)) ?_
      exact k ho20 ((hH1.cn h5 e2).tnx h5 hal)
/-- MeetingHouse goes to the next token, which the twin takes in its own way -/
theorem PS_nxl {A : (kx_Rs → wS → Prop) → wS → Prop} (hL : 400 ≤ L) (hH : HY D K ex et S0 (w, t, al, m, N, nu, tn) p q o o') (h5 : kk K p ≠ 75)
    (k : HY D K ex et S0 (nx w p, t, al, m, N, nu, tn) (p + 1) q o o' → PS (fun Q => A Q (nx w p)) gt (PR D K ex et S0 p0 oA bl br lo G))
    (kd : ∀ w', DDx K S0 w' → kk K (p + 1) = 76 → eS gt (fun r' t' => TLP D K S0.1 S0.2.1 br lo w' r' t')) :
    PS (fun Q => zw D.1 L kt_M195 [.ref (w_adr D.1.2.1 4 0)] w (wk0 (fun w1 => wle w w1 → A Q w1) (fun e w => Q (.inr e) w))) gt (PR D K ex et S0 p0 oA bl br lo G) := by
  have hca := hH.1.ca
  have hal := hH.1.2.1.1.2.2.1
  have hp1 := hH.p1 h5
  by_cases e2 : kk K (p + 1) = 76
  · refine PS_lx0 (fun Q hq => c_next (by omega) hca h5 hal (fun h => absurd e2 h) (fun _ => hq)) (PR_stop ?_)
    exact kd _ (hH.ddx hp1 e2 FX_nx) e2
  · refine PS_l0 (fun Q hq => c_next (by omega) hca h5 hal (fun _ => hq) (fun h => absurd h e2)) ?_
    exact k (hH.cn h5 e2)
/-- MeetingHouse tells 2, the twin, too -/
theorem PS_two {X : (kx_Rs → wS → Prop) → wS → Prop} (hL : 400 ≤ L) (hH : HY D K ex et S0 (w, t, al, m, N, nu, tn) p q o o') (kd : ∀ w', w' = fl2 w 2 (kln K p) → eS gt (fun r' t' => TLP D K S0.1 S0.2.1 br lo w' r' t')) : PS (fun Q => zw D.1 L kt_M213 [.ref (w_adr D.1.2.1 4 0)] w (wk0 (X Q) (fun e w => Q (.inr e) w))) gt (PR D K ex et S0 p0 oA bl br lo G) := PS_lx0 (fun Q hq => c_unfit (by omega) hH.1.ca hq) (PR_stop (kd _ rfl))
end BST
