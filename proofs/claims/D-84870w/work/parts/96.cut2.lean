/-! ===== TOKENS, part 12: MeetingHouse cuts a text into tokens ===== -/
theorem sbE {c d : Int} (h : (0 ≤ c ∧ c ≤ 255) ∧ 0 ≤ d ∧ d < 128) : (i_ (sb c) = i_ d) = (c = d) := by
  have := sb_rng h.1
  rw [E_eq (by omega)]
  exact propext (sb_eq h.1 h.2)
theorem i_half0 : ∀ b : Nat, b < 1300 → (i_ b : Int32) / i_ 2 = i_ (b / 2 : Nat) ∧ (i_ b : Int32) - i_ (b / 2 : Nat) * i_ 2 = i_ (b % 2 : Nat) := by decide +kernel
def cntT (K : List (Tk × Nat × Int)) : Nat := (K.filter (fun t => t.1.1 < 7)).length
def cntL (K : List (Tk × Nat × Int)) : Nat := (K.filter (fun t => t.1.1 == 7)).length
theorem cntT_app {K K' : List (Tk × Nat × Int)} : cntT (K ++ K') = cntT K + cntT K' := by simp [cntT]
theorem cntL_app {K K' : List (Tk × Nat × Int)} : cntL (K ++ K') = cntL K + cntL K' := by simp [cntL]
/-- tokens of a line, none marked -/
def ann (ln : Nat) (ts : List Tk) : List (Tk × Nat × Int) := ts.map (fun t => (t, ln, -1))
theorem tkW_7 {s : List Int} : (tkW s).1 < 7 := by
  unfold tkW
  split <;> simp
theorem tk1_7 {T : Nat → Int} {n p : Nat} : (tk1 T n p).1.1 < 7 := by
  unfold tk1
  repeat' split
  all_goals first
    | exact tkW_7
    | (simp [tBad]; done)
    | (unfold tkS
       repeat' split
       all_goals simp [tBad])
    | (unfold tkC
       repeat' split
       all_goals simp [tBad])
/-- the tokens so far, counted -/
def TKJ (E : zE) (w : wS) (T : Nat → Int) (n : Nat) (ns : List (List Int)) (lm sm : Nat) (K : List (Tk × Nat × Int)) : Prop := TKI E w T n ns lm sm K ∧ w_i w 1 0 9 = i_ (cntT K) ∧ w_i w 1 0 8 = i_ (cntL K)
section CU
variable {E : zE} {L : Nat} {w : wS} {T : Nat → Int} {n e p s m sm lm ln B : Nat} {ns : List (List Int)} {K : List (Tk × Nat × Int)}
theorem TKI.i9 (h : TKI E w T n ns lm sm K) {v : Int32} {k : Nat} (hk : k = 9 ∨ k = 8) : TKI E (ws_i w 1 0 k v) T n ns lm sm K := by
  obtain ⟨⟨h1, h2, h3⟩, ⟨h4, h5⟩, h6⟩ := h
  have hf : frm (pk 1 [8, 9]) w (ws_i w 1 0 k v) := frm_i (by rcases hk with rfl | rfl <;> rfl)
  exact ⟨⟨h1.frm hf ⟨by rfl, by rfl⟩, h2.frm hf (by decide), h3⟩, ⟨by rw [hf.i rfl]; exact h4, by rw [hf.i rfl]; exact h5⟩, fun k t hk => (h6 k t hk).up (hf.r rfl) (hf.a rfl) (hf.a rfl) (hf.a rfl) (hf.a rfl) (List.prefix_refl _) (Nat.le_refl _) (fun j hj => hf.a rfl)⟩
theorem TKI.mark {t : Tk} {R : List (Tk × Nat × Int)} (h : TKI E w T n ns lm sm (K ++ (t, ln, -1) :: R)) {b : Int} : TKI E (ws_a w 1 0 6 K.length (i_ (dep b))) T n ns lm sm (K ++ (t, ln, b) :: R) := by
  obtain ⟨⟨h1, h2, h3⟩, ⟨h4, h5⟩, h6⟩ := h
  have hf : frm (pk 1 [6]) w (ws_a w 1 0 6 K.length (i_ (dep b))) := frm_a rfl
  refine ⟨⟨h1.frm hf ⟨by rfl, by rfl⟩, h2.frm hf (by decide), h3⟩, ⟨by rw [hf.i rfl, h4]; simp, by rw [hf.i rfl]; exact h5⟩, fun k t' hk => ?_⟩
  by_cases hkl : k = K.length
  · subst hkl
    rw [List.getElem?_append_right (Nat.le_refl _)] at hk
    simp at hk
    subst hk
    have h7 := h6 K.length (t, ln, -1) (by rw [List.getElem?_append_right (Nat.le_refl _)]; simp)
    exact ⟨by rw [hf.r rfl]; exact h7.1, h7.2.1.up (hf.a rfl) (hf.a rfl) (List.prefix_refl _) (Nat.le_refl _) (fun j hj => hf.a rfl), by rw [hf.a rfl]; exact h7.2.2.1, by simp only [Ria, Rga, Rpa, Raa, Rba, Rra, Rna, Rda, Roa, Rta, Rza, RCa, RSa]; simp⟩
  · have h7 := h6 k t' (by
      by_cases hlt : k < K.length
      · rw [List.getElem?_append_left hlt] at hk ⊢
        exact hk
      · rw [List.getElem?_append_right (by omega)] at hk ⊢
        rw [show k - K.length = (k - K.length - 1) + 1 by omega, List.getElem?_cons_succ] at hk ⊢
        exact hk)
    exact h7.up (hf.r rfl) (hf.a rfl) (hf.a rfl) (hf.a rfl) (by simp only [Ria, Rga, Rpa, Raa, Rba, Rra, Rna, Rda, Roa, Rta, Rza, RCa, RSa]; rw [if_neg (fun q => hkl q.2.2.2)]) (List.prefix_refl _) (Nat.le_refl _) (fun j hj => hf.a rfl)
/-- what a line brings -/
def LN2 (E : zE) (w0 : wS) (T : Nat → Int) (n e B : Nat) (K : List (Tk × Nat × Int)) (r : kx_Rs) (w' : wS) : Prop := r = .inl none ∧ K.length ≤ B + e + 1 ∧ ∃ ns' lm' sm', TKJ E w' T n ns' lm' sm' K ∧ PB ns' lm' sm' e ∧ frm (pk 1 KT) w0 w'
theorem c2_line_end (hA : zA E) (hL : 400 ≤ L) {w0 : wS} {ts : List Tk} {b : Nat} (hb : b < 1300) (hJ : TKJ E w T n ns lm sm (K ++ ann ln ts)) (hK : K.length + ts.length < 10000) (hB : K.length + ts.length ≤ B + e) (hf : frm (pk 1 KT) w0 w) (hP : PB ns lm sm e) : eS (fun Q => zb_X2_cutLine_p147 E L Q (i_ ln) (i_ K.length) (i_ b) w) (LN2 E w0 T n e B (K ++ mark ln b ts)) := by
  obtain ⟨hI, h9, h8⟩ := hJ
  obtain ⟨⟨hC, hN, hpre⟩, ⟨h7, h11⟩, hrows⟩ := hI
  have hI : TKI E w T n ns lm sm (K ++ ann ln ts) := ⟨⟨hC, hN, hpre⟩, ⟨h7, h11⟩, hrows⟩
  obtain ⟨l0, l2, l3, l4, l5, l6, l10⟩ := hC.2.1.1
  have hlen : (K ++ ann ln ts).length = K.length + ts.length := by simp [ann]
  rw [hlen] at h7
  simp only [zb_X2_cutLine_p147, h7]
  cases ts with
  | nil =>
    simp only [List.length_nil, Nat.add_zero, not_true_eq_false, if_false]
    exact eS_ret ⟨rfl, by simp [mark]; omega, ns, lm, sm, ⟨hI, h9, h8⟩, hP, hf⟩
  | cons t ts =>
    rw [if_pos_fun (c := ¬ (i_ ((K.length + (t :: ts).length : Nat) : Int) = i_ (K.length : Int))) (fun q => by have := (i_eq (by omega) (by omega)).mp q; simp at this; omega)]
    obtain ⟨d1, d2⟩ := i_half0 b hb
    simp only [show (2 : Int32) = i_ 2 from rfl, d1, d2]
    -- what is kept
    have fin : eS (fun Q => zb_X2_cutLine_p178 E L Q (i_ ln) (i_ (dep b)) (i_ K.length) w) (LN2 E w0 T n e B (K ++ mark ln b (t :: ts))) := by
      simp only [zb_X2_cutLine_p178]
      refine eS_and (by rw [l6]; exact i_inb (by omega) (by omega)) ?_
      rw [i_nat (by omega), Int.toNat_natCast]
      have hI2 : TKI E (ws_a w 1 0 6 K.length (i_ (dep b))) T n ns lm sm (K ++ (t, ln, (b : Int)) :: ann ln ts) := hI.mark
      have hf2 : frm (pk 1 [6]) w (ws_a w 1 0 6 K.length (i_ (dep b))) := frm_a rfl
      have hlen2 : (K ++ (t, ln, (b : Int)) :: ann ln ts).length = K.length + (ts.length + 1) := by simp [ann]
      have hm : w_i (ws_a w 1 0 6 K.length (i_ (dep b))) 1 0 7 = i_ (K ++ (t, ln, (b : Int)) :: ann ln ts).length := hI2.2.1.1
      simp only [List.length_cons] at hK
      refine eS_c (fun Q hq => c2_tk hA (by omega) (show 7 < 9 by decide) hI2.1.1.2.1 hm (by omega) hq) ?_
      intro hle
      simp only [wk0, hle, forall_const]
      have hI3 := hI2.add (l := 0) (v := 0) (lnn := ln) (t := tLin) (i := 7) (by rfl) (CV_oth (by decide))
      have hf3 : frm (pk 1 [2, 3, 4, 5, 6, 7]) (ws_a w 1 0 6 K.length (i_ (dep b))) (tk_add (ws_a w 1 0 6 K.length (i_ (dep b))) (E.1.1 7) (K ++ (t, ln, (b : Int)) :: ann ln ts).length 0 0 (i_ ln)) := tka_f
      have hlist : (K ++ (t, ln, (b : Int)) :: ann ln ts) ++ [(tLin, ln, -1)] = K ++ mark ln b (t :: ts) := by
        simp [mark, ann]
      rw [hlist] at hI3
      have e8 : w_i (tk_add (ws_a w 1 0 6 K.length (i_ (dep b))) (E.1.1 7) (K ++ (t, ln, (b : Int)) :: ann ln ts).length 0 0 (i_ ln)) 1 0 8 + 1 = i_ (cntL (K ++ mark ln b (t :: ts))) := by
        rw [hf3.i rfl, hf2.i rfl, h8, ← hlist, cntL_app, cntL_app, cntL_app, i_1, i_add]
        have h1 : cntL ((t, ln, (b : Int)) :: ann ln ts) = cntL (ann ln (t :: ts)) := by
          simp [cntL, ann, List.filter_cons]
          split <;> simp
        have h2 : cntL [(tLin, ln, -1)] = 1 := rfl
        rw [h1, h2]
        congr 1
      rw [e8]
      refine eS_ret ⟨rfl, by simp [mark] at hB ⊢; omega, ns, lm, sm, ⟨hI3.i9 (.inr rfl), ?_, ?_⟩, hP, ((hf.tr (hf2.sub (by decide))).tr (hf3.sub (by decide))).tr (frm_i rfl)⟩
      · simp only [Rii, Rgi, Rpi, Rai, Rbi, Rri, Rni, Rdi, Roi, Rti, Rzi, RCi, RSi]
        rw [if_neg (by decide), hf3.i rfl, hf2.i rfl, h9, ← hlist, cntT_app, cntT_app, cntT_app]
        have h1 : cntT ((t, ln, (b : Int)) :: ann ln ts) = cntT (ann ln (t :: ts)) := by
          simp [cntT, ann, List.filter_cons]
          split <;> simp
        have h2 : cntT [(tLin, ln, -1)] = 0 := rfl
        rw [h1, h2]
        rfl
      · simp only [Rii, Rgi, Rpi, Rai, Rbi, Rri, Rni, Rdi, Roi, Rti, Rzi, RCi, RSi]
        simp
    by_cases hodd : b % 2 = 0
    · rw [if_neg_fun (not_not_intro (by rw [hodd]; rfl))]
      have : dep (b : Int) = ((b / 2 : Nat) : Int) := by
        unfold dep
        rw [if_neg (by omega), if_pos (by omega)]
        omega
      rw [this] at fin
      exact fin
    · rw [if_pos_fun (c := ¬ (i_ ((b % 2 : Nat) : Int) = 0)) (fun q => by rw [i_0] at q; have := (i_eq (by omega) (by omega)).mp q; omega)]
      have : dep (b : Int) = -1 := by
        unfold dep
        rw [if_neg (by omega), if_neg (by omega)]
      rw [this] at fin
      exact fin
theorem c2_line_toks (hA : zA E) (hL : 500 ≤ L) {w0 : wS} {b : Nat} (hb : b < 1300) (he : e ≤ n) (h10 : T e = 10) (hs : B + e < 9000) (hn : n ≤ 1280) : ∀ k p ts w ns lm sm, e - p < k → p ≤ e → K.length + ts.length ≤ B + p → TKJ E w T n ns lm sm (K ++ ann ln ts) → frm (pk 1 KT) w0 w → PB ns lm sm p → eS (fun Q => zL_X2_cutLine_p42 E L Q (i_ e) (i_ ln) (i_ p) (i_ K.length) (i_ b) 1 w) (LN2 E w0 T n e B (K ++ mark ln b (ts ++ tkl T n e k p))) := by
  intro k
  induction k with
  | zero => intro p ts w ns lm sm h1; omega
  | succ k ih =>
    intro p ts w ns lm sm hk hp hts hJ hf hP
    obtain ⟨hI, h9, h8⟩ := hJ
    have hC := hI.1.1
    have hxr := hC.1.2.2
    have l0 := hC.2.1.1.1
    have hT := hC.2.2.2
    have hr := hxr p
    refine eS_l (fun Q h => zt_X2_cutLine_p42 (by omega) h) ?_
    simp only [zb_X2_cutLine_p42]
    rw [if_neg_fun (by decide)]
    by_cases hpe : e ≤ p
    · rw [if_pos_fun ((i_le (by omega) (by omega)).mpr (by omega))]
      have : tkl T n e (k + 1) p = [] := by
        unfold tkl
        rw [if_pos hpe]
      rw [this, List.append_nil]
      exact c2_line_end hA (by omega) hb ⟨hI, h9, h8⟩ (by omega) (by omega) hf (by obtain ⟨b1, b2, b3⟩ := hP; exact ⟨by omega, by omega, by omega⟩)
    rw [if_neg_fun (fun q => hpe (by have := (i_le (by omega) (by omega)).mp q; omega))]
    refine eS_and (by rw [l0]; exact i_inb (by omega) (by omega)) ?_
    simp only [i_nat' (show p < 2147483648 by omega), hT p (by omega), show (32 : Int32) = i_ 32 from rfl, show (45 : Int32) = i_ 45 from rfl, sbE (show (0 ≤ T p ∧ T p ≤ 255) ∧ 0 ≤ (32 : Int) ∧ (32 : Int) < 128 by omega), sbE (show (0 ≤ T p ∧ T p ≤ 255) ∧ 0 ≤ (45 : Int) ∧ (45 : Int) < 128 by omega)]
    by_cases h32 : T p = 32
    · rw [if_neg_fun (fun q => q h32), i_1, i_add, cN1]
      have : tkl T n e (k + 1) p = tkl T n e k (p + 1) := by
        conv => lhs; unfold tkl
        rw [if_neg hpe, if_pos h32]
      rw [this]
      exact ih (p + 1) ts w ns lm sm (by omega) (by omega) (by omega) ⟨hI, h9, h8⟩ hf (by obtain ⟨b1, b2, b3⟩ := hP; exact ⟨by omega, by omega, by omega⟩)
    rw [if_pos_fun h32]
    refine eS_and (by rw [l0]; exact i_inb (by omega) (by omega)) ?_
    have htok : ¬ (T p = 45 ∧ T (p + 1) = 45) → eS (fun Q => zb_X2_cutLine_p111 E L Q (i_ e) (i_ ln) (i_ p) (i_ K.length) (i_ b) w) (LN2 E w0 T n e B (K ++ mark ln b (ts ++ tkl T n e (k + 1) p))) := by
      intro hnc
      have htkl : tkl T n e (k + 1) p = if (tk1 T n p).1 = tBad then [tBad] else (tk1 T n p).1 :: tkl T n e k (tk1 T n p).2 := by
        conv => lhs; unfold tkl
        rw [if_neg hpe, if_neg h32, if_neg hnc]
      simp only [zb_X2_cutLine_p111, zb_X2_cutLine_p132]
      refine eS_ce (c2_token hA (by omega) hI he (by omega) h10 hP (by simp [ann]; omega)) ?_
      intro r w2 hle ⟨ns', lm', sm', hI2, hf2, e8, e9, hend⟩
      have hlist : K ++ ann ln ts ++ [((tk1 T n p).1, ln, -1)] = K ++ ann ln (ts ++ [(tk1 T n p).1]) := by simp [ann]
      rw [hlist] at hI2
      have hcT : cntT (K ++ ann ln (ts ++ [(tk1 T n p).1])) = cntT (K ++ ann ln ts) + 1 := by
        rw [← hlist, cntT_app]
        simp [cntT, tk1_7]
      have hcL : cntL (K ++ ann ln (ts ++ [(tk1 T n p).1])) = cntL (K ++ ann ln ts) := by
        rw [← hlist, cntL_app]
        have := @tk1_7 T n p
        simp [cntL]
        omega
      have hJ3 : TKJ E (ws_i w2 1 0 9 (w_i w2 1 0 9 + 1)) T n ns' lm' sm' (K ++ ann ln (ts ++ [(tk1 T n p).1])) := by
        refine ⟨hI2.i9 (.inl rfl), ?_, ?_⟩
        · simp only [Rii, Rgi, Rpi, Rai, Rbi, Rri, Rni, Rdi, Roi, Rti, Rzi, RCi, RSi]
          simp
          rw [e9, h9, hcT, i_1, i_add]
          rfl
        · simp only [Rii, Rgi, Rpi, Rai, Rbi, Rri, Rni, Rdi, Roi, Rti, Rzi, RCi, RSi]
          simp
          rw [e8, h8, hcL]
      have hf3 : frm (pk 1 KT) w0 (ws_i w2 1 0 9 (w_i w2 1 0 9 + 1)) := (hf.tr hf2).tr (frm_i rfl)
      rcases hend with ⟨q1, q2, q3⟩ | ⟨q1, q2, q3, q4, q5⟩
      · subst q2
        simp only [wk1, hle, forall_const]
        rw [if_pos_fun (by rfl)]
        refine eS_l (fun Q h => zt_X2_cutLine_p42 (by omega) h) ?_
        simp only [zb_X2_cutLine_p42]
        rw [if_pos_fun trivial, htkl, if_pos q1]
        rw [q1] at hJ3
        exact c2_line_end hA (by omega) hb hJ3 (by simp; omega) (by simp; omega) hf3 q3
      · subst q2
        simp only [wk1, hle, forall_const]
        rw [if_neg_fun (fun q => by rw [i_m1] at q; have := (i_eq (by omega) (by omega)).mp q; omega)]
        rw [htkl, if_neg q1]
        have h := ih (tk1 T n p).2 (ts ++ [(tk1 T n p).1]) _ ns' lm' sm' (by omega) q5 (by simp; omega) hJ3 hf3 q3
        rw [List.append_assoc] at h
        exact h
    by_cases h45 : T p = 45
    · rw [if_neg_fun (fun q => q h45)]
      by_cases hpe2 : e ≤ p + 1
      · rw [if_pos_fun (by rw [i_1, i_add]; exact (i_le (by omega) (by omega)).mpr (by omega))]
        refine htok (fun q => ?_)
        have : p + 1 = e := by omega
        rw [this, h10] at q
        exact absurd q.2 (by decide)
      rw [if_neg_fun (by rw [i_1, i_add]; exact fun q => hpe2 (by have := (i_le (by omega) (by omega)).mp q; omega))]
      have hr1 := hxr (p + 1)
      rw [i_1, i_add, cN1, i_nat' (show p + 1 < 2147483648 by omega), hT (p + 1) (by omega)]
      refine eS_and (by rw [l0]; exact i_inb (by omega) (by omega)) ?_
      simp only [sbE (show (0 ≤ T (p + 1) ∧ T (p + 1) ≤ 255) ∧ 0 ≤ (45 : Int) ∧ (45 : Int) < 128 by omega)]
      by_cases h45b : T (p + 1) = 45
      · rw [if_neg_fun (fun q => q h45b)]
        refine eS_l (fun Q h => zt_X2_cutLine_p42 (by omega) h) ?_
        simp only [zb_X2_cutLine_p42]
        rw [if_neg_fun (by decide), if_pos_fun ((i_le (by omega) (by omega)).mpr (by omega))]
        have : tkl T n e (k + 1) p = [] := by
          unfold tkl
          rw [if_neg hpe, if_neg h32, if_pos ⟨h45, h45b⟩]
        rw [this, List.append_nil]
        exact c2_line_end hA (by omega) hb ⟨hI, h9, h8⟩ (by omega) (by omega) hf (by obtain ⟨b1, b2, b3⟩ := hP; exact ⟨by omega, by omega, by omega⟩)
      · rw [if_pos_fun h45b]
        exact htok (fun q => h45b q.2)
    · rw [if_pos_fun h45]
      exact htok (fun q => h45 q.1)
end CU
