/-! ===== TOKENS, part 17: the twin's strings and signs ===== -/
def ST3 (w : wS) (SS : List (List Int)) (se : Nat) : Prop := (w_i w 12 0 18 = i_ SS.length ∧ w_i w 12 0 22 = i_ se) ∧ ∀ k, k < SS.length → ∃ p : Nat, w_a w 12 0 19 k = i_ p ∧ p + (SS.getD k []).length ≤ se ∧ w_a w 12 0 20 k = i_ (SS.getD k []).length ∧ ∀ j, j < (SS.getD k []).length → w_a w 12 0 21 (p + j) = i_ ((SS.getD k []).getD j 0)
theorem ST3.frm {P : Nat → Nat → Bool} {w w' : wS} {SS : List (List Int)} {se : Nat} (h : ST3 w SS se) (hf : frm P w w') (hp : P 12 18 = false ∧ P 12 19 = false ∧ P 12 20 = false ∧ P 12 21 = false ∧ P 12 22 = false) : ST3 w' SS se := by
  obtain ⟨p18, p19, p20, p21, p22⟩ := hp
  obtain ⟨⟨a1, a2⟩, a3⟩ := h
  refine ⟨⟨by rw [hf.i p18]; exact a1, by rw [hf.i p22]; exact a2⟩, fun k hk => ?_⟩
  obtain ⟨p, e1, e2, e3, e4⟩ := a3 k hk
  exact ⟨p, by rw [hf.a p19]; exact e1, e2, by rw [hf.a p20]; exact e3, fun j hj => by rw [hf.a p21]; exact e4 j hj⟩
theorem getD_last {α : Type} {l : List (List α)} {s : List α} : (l ++ [s]).getD l.length [] = s := by
  rw [List.getD_eq_getElem?_getD, List.getElem?_append_right (Nat.le_refl _)]
  simp
theorem getD_app {α : Type} {l l' : List (List α)} {k : Nat} (h : k < l.length) : (l ++ l').getD k [] = l.getD k [] := by
  rw [List.getD_eq_getElem?_getD, List.getD_eq_getElem?_getD, List.getElem?_append_left h]
theorem getD_snoc {l : List Int} {v : Int} {i : Nat} : (l ++ [v]).getD i 0 = if i = l.length then v else l.getD i 0 := by
  by_cases h : i = l.length
  · subst h
    rw [if_pos rfl, List.getD_eq_getElem?_getD, List.getElem?_append_right (Nat.le_refl _)]
    simp
  · rw [if_neg h, List.getD_eq_getElem?_getD, List.getD_eq_getElem?_getD]
    by_cases h2 : i < l.length
    · rw [List.getElem?_append_left h2]
    · rw [List.getElem?_eq_none (by simp; omega), List.getElem?_eq_none (by omega)]
section TS
variable {E : zE} {L : Nat} {w : wS} {T : Nat → Int} {n p k a m lm se : Nat} {SS : List (List Int)}
/-- a string, or none -/
def SR3 (w : wS) (SS : List (List Int)) (se p : Nat) (t : Tk × Nat) (r : kx_Rs) (w' : wS) : Prop := frm (pk 12 [18, 19, 20, 21, 22, 23, 24]) w w' ∧ ((t.1 = tBad ∧ r = .inl (some (.int 76)) ∧ ST3 w' SS se) ∨ (t.1.1 = 3 ∧ r = .inl (some (.int 73)) ∧ ST3 w' (SS ++ [t.1.2.2]) (se + t.1.2.2.length) ∧ w_i w' 12 0 24 = i_ SS.length ∧ w_i w' 12 0 23 = i_ t.2 ∧ p + 2 + t.1.2.2.length ≤ t.2 ∧ t.2 ≤ 1281))
theorem t_string (hL : 300 ≤ L) (hT : TT E w T n) (hS : ST3 w SS se) (hp : w_i w 12 0 23 = i_ p) (hpn : p + 1 ≤ n) (hB : SS.length ≤ p ∧ se ≤ p) : eW w (fun Q => zw E L kt_M548 [.ref (w_adr E.2.1 12 0)] w Q) (SR3 w SS se p (tkS (strf T (n + 1) (p + 1)) p)) := by
  obtain ⟨⟨hn, hx10, hxr⟩, hA⟩ := hT.1
  obtain ⟨l19, l20, l21⟩ := hT.2.1.2.2.2
  obtain ⟨⟨a18, a22⟩, hrows⟩ := hS
  refine eW_of (A := fun Q => zb_X13_string_p0 E L Q w) (fun Q h => zt_X13_string_p0 (by omega) h) ?_
  simp only [zb_X13_string_p0, a18, a22]
  refine eS_and (by rw [l19]; exact i_inb (by omega) (by omega)) ?_
  rw [i_nat' (show SS.length < 2147483648 by omega)]
  have loop : ∀ d q l k w', n - q = d → q ≤ n → p + 1 + l.length ≤ q → l.length ≤ 60 → n + 1 - (q - (p + 1)) ≤ k → strf T (n + 1) (p + 1) = (l ++ (strf T k q).1, (strf T k q).2) → frm (pk 12 [19, 21, 23, 24]) w w' → w_i w' 12 0 23 = i_ q → (∀ i, w_a w' 12 0 19 i = if i = SS.length then i_ se else w_a w 12 0 19 i) → (∀ i, i < se → w_a w' 12 0 21 i = w_a w 12 0 21 i) → (∀ i, i < l.length → w_a w' 12 0 21 (se + i) = i_ (l.getD i 0)) → eS (fun Q => zL_X13_string_p25 E L Q (i_ l.length) w') (fun r w2 => wle w w2 → SR3 w SS se p (tkS (strf T (n + 1) (p + 1)) p) r w2) := by
    intro d
    induction d using Nat.strongRecOn with
    | _ d ih =>
      intro q l k w' hd hqn hlq hl60 hk hs hf hat h19 hlo hhi
      have hT' := hT.frm hf (by decide)
      obtain ⟨k', rfl⟩ : ∃ k', k = k' + 1 := ⟨k - 1, by omega⟩
      have hr := hxr q
      have fail : (∀ p2 l2, strf T (n + 1) (p + 1) = (l2, some p2) → l2 ≠ [] → ¬ l2.length ≤ 60) → ∀ w2, frm (pk 12 [18, 19, 20, 21, 22, 23, 24]) w w2 → ST3 w2 SS se → eS (fun Q => Q (.inl (some (.int 76))) w2) (fun r w2 => wle w w2 → SR3 w SS se p (tkS (strf T (n + 1) (p + 1)) p) r w2) := by
        intro hno w2 hf2 hS2
        refine eS_ret (fun _ => ⟨hf2, .inl ⟨?_, rfl, hS2⟩⟩)
        cases hst : strf T (n + 1) (p + 1) with
        | mk l2 o =>
          cases o with
          | none => rfl
          | some q2 => rw [tkS_e, if_neg (fun h => hno q2 l2 hst h.1 h.2)]
      have hST : ST3 w' SS se := by
        refine ⟨⟨by rw [hf.i rfl]; exact a18, by rw [hf.i rfl]; exact a22⟩, fun k hk => ?_⟩
        obtain ⟨p2, e1, e2, e3, e4⟩ := hrows k hk
        exact ⟨p2, by rw [h19, if_neg (by omega)]; exact e1, e2, by rw [hf.a rfl]; exact e3, fun j hj => by rw [hlo _ (by omega)]; exact e4 j hj⟩
      refine eS_l (fun Q h => zt_X13_string_p25 (by omega) h) ?_
      simp only [zb_X13_string_p25, zb_X13_string_p48]
      refine eS_k (fun Q hq => t_here0 (by omega) hT' hat (by omega) hq) ?_
      have ha18 : w_i w' 12 0 18 = i_ SS.length := by rw [hf.i rfl]; exact a18
      have ha22 : w_i w' 12 0 22 = i_ se := by rw [hf.i rfl]; exact a22
      by_cases h34 : T q = 34
      · rw [if_pos_fun (by rw [h34]; rfl)]
        have hst : strf T (k' + 1) q = ([], some q) := by
          unfold strf
          rw [if_pos h34]
        rw [hst, List.append_nil] at hs
        by_cases hl0 : l.length = 0
        · rw [if_neg_fun (c := ¬ (i_ (l.length : Int) = 0)) (not_not_intro (by rw [hl0]; rfl))]
          refine fail (fun p2 l2 h1 h2 => ?_) w' (hf.sub (by decide)) hST
          rw [hs] at h1
          cases h1
          exact absurd (List.eq_nil_of_length_eq_zero hl0) h2
        · rw [if_pos_fun (c := ¬ (i_ (l.length : Int) = 0)) (fun e => hl0 (by rw [i_0] at e; have := (i_eq (by omega) (by omega)).mp e; omega))]
          refine eS_and (by rw [ha18, hf.n, l20]; exact i_inb (by omega) (by omega)) ?_
          have htk : tkS (strf T (n + 1) (p + 1)) p = ((3, 0, l), q + 1) := by
            rw [hs, tkS_e, if_pos ⟨fun e => hl0 (by rw [e]; rfl), hl60⟩]
          have hqn2 : q < n := by
            by_cases e : q < n
            · exact e
            · rw [hx10 q (by omega)] at h34
              omega
          rw [htk]
          simp only [ha18, ha22, hat, i_nat' (show SS.length < 2147483648 by omega)]
          have hf1 : frm (pk 12 [18, 20, 22, 23, 24]) w' (ws_i (ws_i (ws_i (ws_a (ws_i w' 12 0 23 (i_ q + 1)) 12 0 20 SS.length (i_ l.length)) 12 0 22 (i_ se + i_ l.length)) 12 0 24 (i_ SS.length)) 12 0 18 (i_ SS.length + 1)) := ((((frm_i rfl).tr (frm_a rfl)).tr (frm_i rfl)).tr (frm_i rfl)).tr (frm_i rfl)
          refine eS_ret (fun _ => ⟨(hf.sub (by decide)).tr (hf1.sub (by decide)), .inr ⟨rfl, rfl, ⟨⟨?_, ?_⟩, fun k hk => ?_⟩, ?_, ?_, by simp only; omega, by simp only; omega⟩⟩)
          · simp only [Rii, Rgi, Rpi, Rai, Rbi, Rri, Rni, Rdi, Roi, Rti, Rzi, RCi, RSi, Ria, Rga, Rpa, Raa, Rba, Rra, Rna, Rda, Roa, Rta, Rza, RCa, RSa]
            rw [if_pos (by decide), i_1, i_add]
            simp
          · simp only [Rii, Rgi, Rpi, Rai, Rbi, Rri, Rni, Rdi, Roi, Rti, Rzi, RCi, RSi, Ria, Rga, Rpa, Raa, Rba, Rra, Rna, Rda, Roa, Rta, Rza, RCa, RSa]
            rw [if_neg (by decide), if_neg (by decide), if_pos (by decide), i_add]
            rfl
          · have b20 : ∀ k, w_a (ws_i (ws_i (ws_i (ws_a (ws_i w' 12 0 23 (i_ q + 1)) 12 0 20 SS.length (i_ l.length)) 12 0 22 (i_ se + i_ l.length)) 12 0 24 (i_ SS.length)) 12 0 18 (i_ SS.length + 1)) 12 0 20 k = if k = SS.length then i_ l.length else w_a w 12 0 20 k := by
              intro k
              simp only [Rii, Rgi, Rpi, Rai, Rbi, Rri, Rni, Rdi, Roi, Rti, Rzi, RCi, RSi, Ria, Rga, Rpa, Raa, Rba, Rra, Rna, Rda, Roa, Rta, Rza, RCa, RSa]
              rw [hf.a rfl]
              simp
            rw [b20, hf1.a rfl, h19]
            by_cases hkl : k = SS.length
            · subst hkl
              rw [getD_last, if_pos rfl, if_pos rfl]
              exact ⟨se, rfl, Nat.le_refl _, rfl, fun j hj => by rw [hf1.a rfl]; exact hhi j hj⟩
            · have hk2 : k < SS.length := by simp at hk; omega
              obtain ⟨p2, e1, e2, e3, e4⟩ := hrows k hk2
              rw [getD_app hk2, if_neg hkl, if_neg hkl]
              exact ⟨p2, e1, by simp only; omega, e3, fun j hj => by rw [hf1.a rfl, hlo _ (by omega)]; exact e4 j hj⟩
          · simp only [Rii, Rgi, Rpi, Rai, Rbi, Rri, Rni, Rdi, Roi, Rti, Rzi, RCi, RSi, Ria, Rga, Rpa, Raa, Rba, Rra, Rna, Rda, Roa, Rta, Rza, RCa, RSa]
            rw [if_neg (by decide), if_pos (by decide)]
          · simp only [Rii, Rgi, Rpi, Rai, Rbi, Rri, Rni, Rdi, Roi, Rti, Rzi, RCi, RSi, Ria, Rga, Rpa, Raa, Rba, Rra, Rna, Rda, Roa, Rta, Rza, RCa, RSa]
            rw [if_neg (by decide), if_neg (by decide), if_neg (by decide), if_pos (by decide), i_1, i_add, cN1]
      · rw [if_neg_fun (by rw [show (34 : Int32) = i_ 34 from rfl]; exact fun e => h34 ((i_eq (by omega) (by omega)).mp e))]
        by_cases h60 : l.length = 60
        · rw [if_pos_fun (by rw [h60]; rfl)]
          refine fail (fun p2 l2 h1 h2 h3 => ?_) w' (hf.sub (by decide)) hST
          rw [hs] at h1
          have e1 := congrArg Prod.fst h1
          have e2 := congrArg Prod.snd h1
          simp only at e1 e2
          unfold strf at e1 e2
          rw [if_neg h34] at e1 e2
          cases hsg : sg T q with
          | none => rw [hsg] at e2; cases e2
          | some vq =>
            obtain ⟨v, q2⟩ := vq
            rw [hsg] at e1
            simp only at e1
            rw [← e1] at h3
            simp at h3
            omega
        rw [if_neg_fun (fun e => h60 (by rw [show (60 : Int32) = i_ 60 from rfl] at e; have := (i_eq (by omega) (by omega)).mp e; omega))]
        refine eS_ce (t_oneSign (by omega) hT' hat hqn) ?_
        intro r w2 hle ⟨hf2, hend⟩
        rcases hend with ⟨q1, q2⟩ | ⟨v, q', q1, q2, q3, q4⟩
        · subst q2
          simp only [wk1, hle, forall_const]
          rw [if_neg_fun (by decide)]
          refine fail (fun p2 l2 h1 h2 h3 => ?_) w2 ((hf.sub (by decide)).tr (hf2.sub (by decide))) (hST.frm hf2 (by decide))
          rw [hs] at h1
          have e2 := congrArg Prod.snd h1
          simp only at e2
          unfold strf at e2
          rw [if_neg h34, q1] at e2
          cases e2
        · subst q2
          simp only [wk1, hle, forall_const]
          rw [if_pos_fun (by decide)]
          have hg := sg_p q1
          have hqn2 : q < n := by
            by_cases e : q < n
            · exact e
            · rw [hx10 q (by omega)] at hg
              exact absurd rfl hg.1
          have hq' : q < q' ∧ q' ≤ n := by
            rcases hg.2 with h | ⟨h, h2⟩
            · omega
            · by_cases e : q + 1 < n
              · omega
              · rw [hx10 (q + 1) (by omega)] at h2
                exact absurd rfl h2
          have ha22b : w_i w2 12 0 22 = i_ se := by rw [hf2.i rfl]; exact ha22
          rw [ha22b, q3, i_add, cNn]
          refine eS_and (by rw [hf2.n, hf.n, l21]; exact i_inb (by omega) (by omega)) ?_
          rw [i_nat' (show se + l.length < 2147483648 by omega), i_1, i_add]
          have hll : ((l.length : Int) + 1) = ((l ++ [v]).length : Int) := by simp
          rw [hll]
          have hf3 : frm (pk 12 [21]) w2 (ws_a w2 12 0 21 (se + l.length) (i_ v)) := frm_a rfl
          refine ih (n - q') (by omega) q' (l ++ [v]) k' _ rfl hq'.2 (by simp; omega) (by simp; omega) (by omega) ?_ ((hf.tr (hf2.sub (by decide))).tr (hf3.sub (by decide))) (by rw [hf3.i rfl]; exact q4) (fun i => by rw [hf3.a rfl, hf2.a rfl]; exact h19 i) (fun i hi => ?_) (fun i hi => ?_)
          · rw [hs]
            conv => lhs; unfold strf
            rw [if_neg h34, q1]
            simp
          · rw [Raa, if_neg (by omega), hf2.a rfl]
            exact hlo i hi
          · rw [Raa, getD_snoc]
            by_cases e : i = l.length
            · rw [if_pos ⟨rfl, rfl, rfl, by omega⟩, if_pos e]
            · rw [if_neg (by omega), if_neg e, hf2.a rfl]
              exact hhi i (by simp at hi; omega)
  have hf0 : frm (pk 12 [19, 21, 23, 24]) w (ws_a (ws_i w 12 0 23 (w_i w 12 0 23 + 1)) 12 0 19 SS.length (i_ se)) := (frm_i rfl).tr (frm_a rfl)
  refine loop (n - (p + 1)) (p + 1) [] (n + 1) _ rfl (by omega) (by simp) (by simp) (by omega) (by simp) hf0 ?_ (fun i => ?_) (fun i hi => ?_) (fun i hi => by simp at hi)
  · simp only [Rii, Rgi, Rpi, Rai, Rbi, Rri, Rni, Rdi, Roi, Rti, Rzi, RCi, RSi, Ria, Rga, Rpa, Raa, Rba, Rra, Rna, Rda, Roa, Rta, Rza, RCa, RSa]
    rw [if_pos (by decide), hp, i_1, i_add, cN1]
  · simp only [Rii, Rgi, Rpi, Rai, Rbi, Rri, Rni, Rdi, Roi, Rti, Rzi, RCi, RSi, Ria, Rga, Rpa, Raa, Rba, Rra, Rna, Rda, Roa, Rta, Rza, RCa, RSa]
    simp
  · simp only [Rii, Rgi, Rpi, Rai, Rbi, Rri, Rni, Rdi, Roi, Rti, Rzi, RCi, RSi, Ria, Rga, Rpa, Raa, Rba, Rra, Rna, Rda, Roa, Rta, Rza, RCa, RSa]
    rw [if_neg (by simp)]
end TS
