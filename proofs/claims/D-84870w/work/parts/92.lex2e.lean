/-! ===== TOKENS, part 8: MeetingHouse's characters, strings, signs ===== -/
/-- the signs of a string, and where it ends -/
def strf (T : Nat → Int) : Nat → Nat → List Int × Option Nat
  | 0, _ => ([], none)
  | k + 1, p => if T p = 34 then ([], some p) else match sg T p with
    | none => ([], none)
    | some (v, p') => (v :: (strf T k p').1, (strf T k p').2)
/-- signs kept -/
def sgs (w : wS) : Nat → List Int → wS
  | _, [] => w
  | sm, v :: l => sgs (sg_add w sm v) (sm + 1) l
theorem sg_frm {w : wS} {sm : Nat} {v : Int} : frm (pk 1 [10, 11]) w (sg_add w sm v) := (frm_i rfl).tr (frm_a rfl)
theorem sgs_frm : ∀ {l : List Int} {w : wS} {sm : Nat}, frm (pk 1 [10, 11]) w (sgs w sm l)
  | [], _, _ => frm.rf
  | _ :: _, _, _ => sg_frm.tr sgs_frm
theorem sgs_n : ∀ {l : List Int} {w : wS} {sm : Nat}, w_i w 1 0 11 = i_ sm → w_i (sgs w sm l) 1 0 11 = i_ (sm + l.length : Nat)
  | [], _, _, h => h
  | v :: l, w, sm, h => by
    unfold sgs
    rw [sgs_n (l := l) (sm := sm + 1) (by unfold sg_add; simp only [Rii, Rgi, Rpi, Rai, Rbi, Rri, Rni, Rdi, Roi, Rti, Rzi, RCi, RSi, Ria, Rga, Rpa, Raa, Rba, Rra, Rna, Rda, Roa, Rta, Rza, RCa, RSa]; simp)]
    simp only [List.length_cons]
    rw [show sm + 1 + l.length = sm + (l.length + 1) by omega]
theorem sgs_lo : ∀ {l : List Int} {w : wS} {sm k : Nat}, k < sm → w_a (sgs w sm l) 1 0 10 k = w_a w 1 0 10 k
  | [], _, _, _, _ => rfl
  | v :: l, w, sm, k, h => by
    unfold sgs
    rw [sgs_lo (by omega)]
    unfold sg_add
    simp only [Rii, Rgi, Rpi, Rai, Rbi, Rri, Rni, Rdi, Roi, Rti, Rzi, RCi, RSi, Ria, Rga, Rpa, Raa, Rba, Rra, Rna, Rda, Roa, Rta, Rza, RCa, RSa]
    rw [if_neg (by omega)]
theorem sgs_at : ∀ {l : List Int} {w : wS} {sm j : Nat}, j < l.length → w_a (sgs w sm l) 1 0 10 (sm + j) = i_ (l.getD j 0)
  | [], _, _, _, h => by simp at h
  | v :: l, w, sm, 0, h => by
    unfold sgs
    rw [sgs_lo (by omega)]
    unfold sg_add
    simp only [Rii, Rgi, Rpi, Rai, Rbi, Rri, Rni, Rdi, Roi, Rti, Rzi, RCi, RSi, Ria, Rga, Rpa, Raa, Rba, Rra, Rna, Rda, Roa, Rta, Rza, RCa, RSa]
    simp
  | v :: l, w, sm, j + 1, h => by
    unfold sgs
    rw [show sm + (j + 1) = sm + 1 + j by omega, sgs_at (by simpa using h)]
    rfl
theorem sgs_snoc : ∀ {l : List Int} {w : wS} {sm : Nat} {v : Int}, sg_add (sgs w sm l) (sm + l.length) v = sgs w sm (l ++ [v])
  | [], _, _, _ => rfl
  | x :: l, w, sm, v => by
    simp only [List.cons_append, sgs, List.length_cons]
    rw [← sgs_snoc, show sm + (l.length + 1) = sm + 1 + l.length by omega]
section LU
variable {E : zE} {L : Nat} {w : wS} {Q : kx_Rs → wS → Prop} {T : Nat → Int} {n e a p m sm : Nat} {ln : Int32}
theorem sg_end {e : Nat} {T : Nat → Int} (h10 : T e = 10) {p p' : Nat} {v : Int} (hp : p ≤ e) (h : sg T p = some (v, p')) : p' ≤ e ∧ p < p' ∧ p < e := by
  have := sg_p h
  by_cases h1 : p = e
  · subst h1
    omega
  · by_cases h2 : p + 1 = e
    · subst h2
      omega
    · omega
theorem c2_character (hA : zA E) (hL : 300 ≤ L) (hC : CT w T n) (he : e ≤ n) (ha : a + 1 ≤ e) (h10 : T e = 10) (hm : w_i w 1 0 7 = i_ m) (hm2 : m < 12000) (hsm : w_i w 1 0 11 = i_ sm) (hsm2 : sm < 6000)
    (h00 : sg T (a + 1) = none → Q (.inl (some (.int (i_ (-1))))) w)
    (h0 : ∀ v p', sg T (a + 1) = some (v, p') → T p' ≠ 39 → Q (.inl (some (.int (i_ (-1))))) (sg_add w sm v))
    (h1 : ∀ v p', sg T (a + 1) = some (v, p') → T p' = 39 → p' < e → Q (.inl (some (.int (i_ (p' + 1 : Nat))))) (tk_add (sg_add w sm v) (E.1.1 4) m (i_ v) 0 ln)) : zw E L kt_M237 [.ref (w_adr E.2.1 1 0), .int (i_ a), .int (i_ e), .int ln] w Q := by
  have hC2 := hC
  obtain ⟨⟨hn, hx10, hxr⟩, hTL, hsz, hT⟩ := hC
  obtain ⟨l0, -, -, -, -, -, l10⟩ := hTL.1
  refine zt_X2_character_p0 (by omega) ?_
  simp only [zb_X2_character_p0, zb_X2_character_p40]
  simp (disch := omega) only [E_lt, E_le, E_eq, E_nat, E_inb, i_add, i_sub, i_neg, cN1, cN2, cNn, Int.toNat_natCast, if_pos, if_neg, true_and, and_true, show ((-1) : Int32) = i_ (-1) from rfl, show (0 : Int32) = i_ 0 from rfl, show (1 : Int32) = i_ 1 from rfl, show (4 : Int32) = i_ 4 from rfl, show (10 : Int32) = i_ 10 from rfl, show (11 : Int32) = i_ 11 from rfl, show (24 : Int32) = i_ 24 from rfl, show (25 : Int32) = i_ 25 from rfl, show (39 : Int32) = i_ 39 from rfl, l0]
  refine c2_oneSign (by omega) hC2 he ha h10 hsm hsm2 (fun h => ?_) (fun v p' h => ?_)
  · intro _
    simp (disch := omega) only [E_lt, E_le, E_eq, E_nat, E_inb, i_add, i_sub, i_neg, cN1, cN2, cNn, Int.toNat_natCast, if_pos, if_neg, true_and, and_true, show ((-1) : Int32) = i_ (-1) from rfl, show (0 : Int32) = i_ 0 from rfl, show (1 : Int32) = i_ 1 from rfl, show (4 : Int32) = i_ 4 from rfl, show (10 : Int32) = i_ 10 from rfl, show (11 : Int32) = i_ 11 from rfl, show (24 : Int32) = i_ 24 from rfl, show (25 : Int32) = i_ 25 from rfl, show (39 : Int32) = i_ 39 from rfl, l0]
    exact h00 h
  · intro _
    obtain ⟨q1, q2, q3⟩ := sg_end h10 ha h
    have hv := sg_v h
    have hC3 := hC2.frm (sg_frm (sm := sm) (v := v)) ⟨by rfl, by rfl⟩
    by_cases hpe : e ≤ p'
    · simp (disch := omega) only [E_lt, E_le, E_eq, E_nat, E_inb, i_add, i_sub, i_neg, cN1, cN2, cNn, Int.toNat_natCast, if_pos, if_neg, true_and, and_true, show ((-1) : Int32) = i_ (-1) from rfl, show (0 : Int32) = i_ 0 from rfl, show (1 : Int32) = i_ 1 from rfl, show (4 : Int32) = i_ 4 from rfl, show (10 : Int32) = i_ 10 from rfl, show (11 : Int32) = i_ 11 from rfl, show (24 : Int32) = i_ 24 from rfl, show (25 : Int32) = i_ 25 from rfl, show (39 : Int32) = i_ 39 from rfl, l0]
      exact h0 v p' h (by rw [show p' = e by omega, h10]; decide)
    · have l0' := hC3.2.1.1.1
      have hr := hxr p'
      have hsb := sb_rng hr
      have hn10 : w_n (sg_add w sm v) 1 0 10 = 6000 := by rw [sg_frm.n]; exact l10
      simp (disch := omega) only [E_lt, E_le, E_eq, E_nat, E_inb, i_add, i_sub, i_neg, cN1, cN2, cNn, Int.toNat_natCast, if_pos, if_neg, true_and, and_true, show ((-1) : Int32) = i_ (-1) from rfl, show (0 : Int32) = i_ 0 from rfl, show (1 : Int32) = i_ 1 from rfl, show (4 : Int32) = i_ 4 from rfl, show (10 : Int32) = i_ 10 from rfl, show (11 : Int32) = i_ 11 from rfl, show (24 : Int32) = i_ 24 from rfl, show (25 : Int32) = i_ 25 from rfl, show (39 : Int32) = i_ 39 from rfl, l0', hC3.2.2.2 p' (by omega), hn10, hsm]
      by_cases h39 : T p' = 39
      · rw [if_pos (by rw [h39]; decide)]
        have hval : w_a (sg_add w sm v) 1 0 10 sm = i_ v := sgs_at (l := [v]) (j := 0) (by simp)
        rw [hval]
        refine c2_tk hA (by omega) (by decide) hC3.2.1 (by rw [sg_frm.i rfl]; exact hm) hm2 ?_
        intro _
        exact h1 v p' h h39 (by omega)
      · rw [if_neg (fun q => h39 ((sb_eq hr (by omega)).mp q))]
        exact h0 v p' h h39
theorem c2_string (hA : zA E) (hL : 300 ≤ L) (hC : CT w T n) (he : e ≤ n) (ha : a + 1 ≤ e) (h10 : T e = 10) (hm : w_i w 1 0 7 = i_ m) (hm2 : m < 12000) (hsm : w_i w 1 0 11 = i_ sm) (hsm2 : sm + e < 6000)
    (h0 : (¬ ∃ p l, strf T (n + 1) (a + 1) = (l, some p) ∧ l ≠ [] ∧ l.length ≤ 60) → (strf T (n + 1) (a + 1)).1.length ≤ e - (a + 1) → Q (.inl (some (.int (i_ (-1))))) (sgs w sm (strf T (n + 1) (a + 1)).1))
    (h1 : ∀ p l, strf T (n + 1) (a + 1) = (l, some p) → l ≠ [] → l.length ≤ 60 → p < e → a + 1 + l.length ≤ p → Q (.inl (some (.int (i_ (p + 1 : Nat))))) (tk_add (sgs w sm l) (E.1.1 3) m (i_ sm) (i_ l.length) ln)) : zw E L kt_M250 [.ref (w_adr E.2.1 1 0), .int (i_ a), .int (i_ e), .int ln] w Q := by
  have hC2 := hC
  obtain ⟨⟨hn, hx10, hxr⟩, hTL, hsz, hT⟩ := hC
  obtain ⟨l0, -, -, -, -, -, l10⟩ := hTL.1
  refine zt_X2_string_p0 (by omega) ?_
  simp only [zb_X2_string_p0]
  simp (disch := omega) only [E_lt, E_le, E_eq, E_nat, E_inb, i_add, i_sub, i_neg, cN1, cN2, cNn, Int.toNat_natCast, if_pos, if_neg, true_and, and_true, show ((-1) : Int32) = i_ (-1) from rfl, show (0 : Int32) = i_ 0 from rfl, show (1 : Int32) = i_ 1 from rfl, show (3 : Int32) = i_ 3 from rfl, show (11 : Int32) = i_ 11 from rfl, show (24 : Int32) = i_ 24 from rfl, show (25 : Int32) = i_ 25 from rfl, show (34 : Int32) = i_ 34 from rfl, show (60 : Int32) = i_ 60 from rfl, hsm]
  have fail : ∀ l : List Int, l.length ≤ e - (a + 1) → (strf T (n + 1) (a + 1)).1 = l → (¬ ∃ p l, strf T (n + 1) (a + 1) = (l, some p) ∧ l ≠ [] ∧ l.length ≤ 60) → Q (.inl (some (.int (i_ (-1))))) (sgs w sm l) := fun l h1 h3 h2 => by
    subst h3
    exact h0 h2 h1
  have loop : ∀ d p l k, e - p = d → p ≤ e → a + 1 + l.length ≤ p → n + 1 - (p - (a + 1)) ≤ k → strf T (n + 1) (a + 1) = (l ++ (strf T k p).1, (strf T k p).2) → zL_X2_string_p11 E L Q (i_ e) ln (i_ sm) (i_ p) (sgs w sm l) := by
    intro d
    induction d using Nat.strongRecOn with
    | _ d ih =>
      intro p l k hd hpe hlp hk hs
      have hf : frm (pk 1 [10, 11]) w (sgs w sm l) := sgs_frm
      have hC3 := hC2.frm hf ⟨by rfl, by rfl⟩
      have l0' := hC3.2.1.1.1
      have hsml := sgs_n (l := l) hsm
      refine zt_X2_string_p11 (by omega) ?_
      simp only [zb_X2_string_p0, zb_X2_string_p47, zb_X2_string_p80, zb_X2_string_p11]
      obtain ⟨k', rfl⟩ : ∃ k', k = k' + 1 := ⟨k - 1, by omega⟩
      have hr := hxr p
      have hsb := sb_rng hr
      by_cases hpe2 : e ≤ p
      · have hpp : p = e := by omega
        simp (disch := omega) only [E_lt, E_le, E_eq, E_nat, E_inb, i_add, i_sub, i_neg, cN1, cN2, cNn, Int.toNat_natCast, if_pos, if_neg, true_and, and_true, show ((-1) : Int32) = i_ (-1) from rfl, show (0 : Int32) = i_ 0 from rfl, show (1 : Int32) = i_ 1 from rfl, show (3 : Int32) = i_ 3 from rfl, show (11 : Int32) = i_ 11 from rfl, show (24 : Int32) = i_ 24 from rfl, show (25 : Int32) = i_ 25 from rfl, show (34 : Int32) = i_ 34 from rfl, show (60 : Int32) = i_ 60 from rfl, l0', hsml]
        have hst : strf T (k' + 1) p = ([], none) := by
          unfold strf
          rw [hpp, h10, if_neg (by decide), show sg T e = none by unfold sg; rw [h10]; rfl]
        rw [hst, List.append_nil] at hs
        refine fail l (by omega) (by rw [hs]) ?_
        rintro ⟨p2, l2, e1, -, -⟩
        rw [hs] at e1
        cases e1
      · by_cases h34 : T p = 34
        · have hs2 : strf T (n + 1) (a + 1) = (l, some p) := by
            rw [hs]
            unfold strf
            rw [if_pos h34]
            simp
          simp (disch := omega) only [E_lt, E_le, E_eq, E_nat, E_inb, i_add, i_sub, i_neg, cN1, cN2, cNn, Int.toNat_natCast, if_pos, if_neg, true_and, and_true, show ((-1) : Int32) = i_ (-1) from rfl, show (0 : Int32) = i_ 0 from rfl, show (1 : Int32) = i_ 1 from rfl, show (3 : Int32) = i_ 3 from rfl, show (11 : Int32) = i_ 11 from rfl, show (24 : Int32) = i_ 24 from rfl, show (25 : Int32) = i_ 25 from rfl, show (34 : Int32) = i_ 34 from rfl, show (60 : Int32) = i_ 60 from rfl, l0', hsml, hC3.2.2.2 p (by omega)]
          rw [if_pos (by rw [h34]; decide)]
          by_cases hl0 : l.length = 0
          · simp (disch := omega) only [E_lt, E_le, E_eq, E_nat, E_inb, i_add, i_sub, i_neg, cN1, cN2, cNn, Int.toNat_natCast, if_pos, if_neg, true_and, and_true, show ((-1) : Int32) = i_ (-1) from rfl, show (0 : Int32) = i_ 0 from rfl, show (1 : Int32) = i_ 1 from rfl, show (3 : Int32) = i_ 3 from rfl, show (11 : Int32) = i_ 11 from rfl, show (24 : Int32) = i_ 24 from rfl, show (25 : Int32) = i_ 25 from rfl, show (34 : Int32) = i_ 34 from rfl, show (60 : Int32) = i_ 60 from rfl, l0']
            refine fail l (by omega) (by rw [hs2]) ?_
            rintro ⟨p2, l2, e1, e2, -⟩
            rw [hs2] at e1
            cases e1
            exact e2 (List.eq_nil_of_length_eq_zero hl0)
          · by_cases hl60 : l.length ≤ 60
            · simp (disch := omega) only [E_lt, E_le, E_eq, E_nat, E_inb, i_add, i_sub, i_neg, cN1, cN2, cNn, Int.toNat_natCast, if_pos, if_neg, true_and, and_true, show ((-1) : Int32) = i_ (-1) from rfl, show (0 : Int32) = i_ 0 from rfl, show (1 : Int32) = i_ 1 from rfl, show (3 : Int32) = i_ 3 from rfl, show (11 : Int32) = i_ 11 from rfl, show (24 : Int32) = i_ 24 from rfl, show (25 : Int32) = i_ 25 from rfl, show (34 : Int32) = i_ 34 from rfl, show (60 : Int32) = i_ 60 from rfl, l0']
              refine c2_tk hA (by omega) (by decide) hC3.2.1 (by rw [hf.i rfl]; exact hm) hm2 ?_
              intro _
              rw [show ((sm + l.length : Nat) : Int) - (sm : Int) = (l.length : Int) by omega]
              exact h1 p l hs2 (fun q => hl0 (by rw [q]; rfl)) hl60 (by omega) hlp
            · simp (disch := omega) only [E_lt, E_le, E_eq, E_nat, E_inb, i_add, i_sub, i_neg, cN1, cN2, cNn, Int.toNat_natCast, if_pos, if_neg, true_and, and_true, show ((-1) : Int32) = i_ (-1) from rfl, show (0 : Int32) = i_ 0 from rfl, show (1 : Int32) = i_ 1 from rfl, show (3 : Int32) = i_ 3 from rfl, show (11 : Int32) = i_ 11 from rfl, show (24 : Int32) = i_ 24 from rfl, show (25 : Int32) = i_ 25 from rfl, show (34 : Int32) = i_ 34 from rfl, show (60 : Int32) = i_ 60 from rfl, l0']
              refine fail l (by omega) (by rw [hs2]) ?_
              rintro ⟨p2, l2, e1, e2, e3⟩
              rw [hs2] at e1
              cases e1
              exact hl60 e3
        · simp (disch := omega) only [E_lt, E_le, E_eq, E_nat, E_inb, i_add, i_sub, i_neg, cN1, cN2, cNn, Int.toNat_natCast, if_pos, if_neg, true_and, and_true, show ((-1) : Int32) = i_ (-1) from rfl, show (0 : Int32) = i_ 0 from rfl, show (1 : Int32) = i_ 1 from rfl, show (3 : Int32) = i_ 3 from rfl, show (11 : Int32) = i_ 11 from rfl, show (24 : Int32) = i_ 24 from rfl, show (25 : Int32) = i_ 25 from rfl, show (34 : Int32) = i_ 34 from rfl, show (60 : Int32) = i_ 60 from rfl, l0', hsml, hC3.2.2.2 p (by omega)]
          rw [if_neg (fun q => h34 ((sb_eq hr (by omega)).mp q))]
          refine c2_oneSign (by omega) hC3 he hpe h10 hsml (by omega) (fun h => ?_) (fun v p' h => ?_)
          · intro _
            refine zt_X2_string_p11 (by omega) ?_
            simp only [zb_X2_string_p0, zb_X2_string_p47, zb_X2_string_p80, zb_X2_string_p11]
            simp (disch := omega) only [E_lt, E_le, E_eq, E_nat, E_inb, i_add, i_sub, i_neg, cN1, cN2, cNn, Int.toNat_natCast, if_pos, if_neg, true_and, and_true, show ((-1) : Int32) = i_ (-1) from rfl, show (0 : Int32) = i_ 0 from rfl, show (1 : Int32) = i_ 1 from rfl, show (3 : Int32) = i_ 3 from rfl, show (11 : Int32) = i_ 11 from rfl, show (24 : Int32) = i_ 24 from rfl, show (25 : Int32) = i_ 25 from rfl, show (34 : Int32) = i_ 34 from rfl, show (60 : Int32) = i_ 60 from rfl, l0']
            have hst : strf T (k' + 1) p = ([], none) := by
              unfold strf
              rw [if_neg h34, h]
            rw [hst, List.append_nil] at hs
            refine fail l (by omega) (by rw [hs]) ?_
            rintro ⟨p2, l2, e1, -, -⟩
            rw [hs] at e1
            cases e1
          · intro _
            obtain ⟨q1, q2, q3⟩ := sg_end h10 hpe h
            rw [sgs_snoc]
            refine ih (e - p') (by omega) p' (l ++ [v]) k' rfl q1 (by simp; omega) (by omega) ?_
            rw [hs]
            conv => lhs; unfold strf
            rw [if_neg h34, h]
            simp
  have h := loop (e - (a + 1)) (a + 1) [] (n + 1) rfl ha (by simp) (by omega) (by simp)
  exact h
end LU
