/-! ===== TOKENS, part 18: the twin's signs ===== -/
def sgl : List (List Int) := [[40], [41], [91], [93], [44], [59], [58], [58, 61], [63], [33], [38], [61], [60, 62], [60], [60, 61], [62], [62, 61], [43], [45], [42], [47], [92], [47, 92], [92, 47], [62, 60], [60, 60], [62, 62], [126]]
def sch : List Int := [40, 41, 91, 93, 44, 59, 58, 63, 33, 38, 61, 60, 62, 43, 45, 42, 47, 92, 126]
theorem sgl_kl : ∀ s, s < 28 → kw_sl (38 + s) = (sgl.getD s []).length ∧ 0 < (sgl.getD s []).length ∧ (sgl.getD s []).length ≤ 2 := by decide +kernel
theorem sgl_kc : ∀ s, s < 28 → ∀ j, j < (sgl.getD s []).length → kw_sc (38 + s) j = i_ ((sgl.getD s []).getD j 0) := by decide +kernel
theorem sgl_ch : ∀ s, s < 28 → (sgl.getD s []).getD 0 0 ∈ sch ∧ ((sgl.getD s []).length ≤ 1 ∨ (sgl.getD s []).getD 1 0 ∈ sch) := by decide +kernel
def mt (c d : Int) (s : Nat) : Bool := decide (c = (sgl.getD s []).getD 0 0) && (decide ((sgl.getD s []).length ≤ 1) || decide (d = (sgl.getD s []).getD 1 0))
def bst (c d : Int) : Nat → Nat
  | 0 => 76
  | s + 1 => if (mt c d s && (decide (bst c d s = 76) || decide ((sgl.getD (bst c d s - 40) []).length < (sgl.getD s []).length))) = true then 40 + s else bst c d s
theorem bst_rng {c d : Int} : ∀ {s : Nat}, bst c d s = 76 ∨ (40 ≤ bst c d s ∧ bst c d s < 40 + s)
  | 0 => .inl rfl
  | s + 1 => by
    have := bst_rng (c := c) (d := d) (s := s)
    unfold bst
    split <;> omega
def rep (c : Int) : Int := if c ∈ sch then c else 0
theorem rep_eq {c x : Int} (h : x ∈ sch) : decide (rep c = x) = decide (c = x) := by
  unfold rep
  split
  · rfl
  · rename_i h1
    have h0 : ¬ (0 : Int) = x := by
      intro e
      rw [← e] at h
      exact absurd h (by decide)
    have h2 : ¬ c = x := fun e => h1 (e ▸ h)
    rw [decide_eq_false h0, decide_eq_false h2]
theorem mt_rep {c d : Int} {s : Nat} (hs : s < 28) : mt (rep c) (rep d) s = mt c d s := by
  obtain ⟨h1, h2⟩ := sgl_ch s hs
  unfold mt
  rw [rep_eq h1]
  rcases h2 with h2 | h2
  · rw [decide_eq_true h2]
    simp
  · rw [rep_eq h2]
theorem bst_rep {c d : Int} : ∀ {s : Nat}, s ≤ 28 → bst (rep c) (rep d) s = bst c d s
  | 0, _ => rfl
  | s + 1, h => by
    unfold bst
    rw [bst_rep (by omega), mt_rep (by omega)]
theorem sgn1_no {c : Int} (h : c ∉ sch) : sgn1 c = -1 := by
  have h2 : ∀ x, x ∈ sch → ¬ c = x := fun x hx e => h (e ▸ hx)
  unfold sgn1
  rw [if_neg (h2 _ (by decide)), if_neg (h2 _ (by decide)), if_neg (h2 _ (by decide)), if_neg (h2 _ (by decide)), if_neg (h2 _ (by decide)), if_neg (h2 _ (by decide)), if_neg (h2 _ (by decide)), if_neg (h2 _ (by decide)), if_neg (h2 _ (by decide)), if_neg (h2 _ (by decide)), if_neg (h2 _ (by decide)), if_neg (h2 _ (by decide)), if_neg (h2 _ (by decide)), if_neg (h2 _ (by decide)), if_neg (h2 _ (by decide)), if_neg (h2 _ (by decide)), if_neg (h2 _ (by decide)), if_neg (h2 _ (by decide)), if_neg (h2 _ (by decide))]
theorem sgn2_no1 {c d : Int} (h : c ∉ sch) : sgn2 c d = -1 := by
  have h2 : ∀ x, x ∈ sch → ¬ c = x := fun x hx e => h (e ▸ hx)
  unfold sgn2
  rw [if_neg (h2 _ (by decide)), if_neg (h2 _ (by decide)), if_neg (h2 _ (by decide)), if_neg (h2 _ (by decide)), if_neg (h2 _ (by decide))]
theorem sgn2_no2 {c d : Int} (h : d ∉ sch) : sgn2 c d = -1 := by
  have h2 : ∀ x, x ∈ sch → ¬ d = x := fun x hx e => h (e ▸ hx)
  unfold sgn2
  rw [if_neg (h2 _ (by decide)), if_neg (h2 _ (by decide)), if_neg (h2 _ (by decide)), if_neg (h2 _ (by decide)), if_neg (h2 _ (by decide)), if_neg (h2 _ (by decide)), if_neg (h2 _ (by decide)), if_neg (h2 _ (by decide)), if_neg (h2 _ (by decide))]
  repeat' split
  all_goals rfl
theorem sgn1_rep {c : Int} : sgn1 (rep c) = sgn1 c := by
  by_cases h : c ∈ sch
  · rw [show rep c = c by unfold rep; rw [if_pos h]]
  · rw [show rep c = 0 by unfold rep; rw [if_neg h], sgn1_no h]
    rfl
theorem sgn2_rep {c d : Int} : sgn2 (rep c) (rep d) = sgn2 c d := by
  by_cases h : c ∈ sch
  · rw [show rep c = c by unfold rep; rw [if_pos h]]
    by_cases h2 : d ∈ sch
    · rw [show rep d = d by unfold rep; rw [if_pos h2]]
    · rw [show rep d = 0 by unfold rep; rw [if_neg h2], sgn2_no2 h2, sgn2_no2 (by decide)]
  · rw [show rep c = 0 by unfold rep; rw [if_neg h], sgn2_no1 h, sgn2_no1 (by decide)]
/-- the best sign, by number -/
def bsv (c d : Int) : Nat := if sgn2 c d = -1 then (if sgn1 c = -1 then 76 else (sgn1 c + 4).toNat) else (sgn2 c d + 4).toNat
theorem bst_all : ∀ c ∈ 0 :: sch, ∀ d ∈ 0 :: sch, bst c d 28 = bsv c d ∧ (bsv c d = 76 ∨ (sgl.getD (bsv c d - 40) []).length = if sgn2 c d = -1 then 1 else 2) := by decide +kernel
theorem rep_mem {c : Int} : rep c ∈ 0 :: sch := by
  unfold rep
  split
  · rename_i h
    exact List.mem_cons_of_mem _ h
  · exact List.mem_cons_self
theorem bst_bsv {c d : Int} : bst c d 28 = bsv c d ∧ (bsv c d = 76 ∨ (sgl.getD (bsv c d - 40) []).length = if sgn2 c d = -1 then 1 else 2) := by
  have h := bst_all (rep c) rep_mem (rep d) rep_mem
  have hb : bsv (rep c) (rep d) = bsv c d := by
    unfold bsv
    rw [sgn1_rep, sgn2_rep]
  rw [bst_rep (Nat.le_refl _), hb, sgn2_rep] at h
  exact h
/-- a sign, or none -/
def SI3 (w : wS) (T : Nat → Int) (p : Nat) (r : kx_Rs) (w' : wS) : Prop := frm (pk 12 [23, 24]) w w' ∧ (((sgk T p).1 = -1 ∧ r = .inl (some (.int 76))) ∨ ((sgk T p).1 ≠ -1 ∧ r = .inl (some (.int (i_ ((sgk T p).1 + 4)))) ∧ w_i w' 12 0 23 = i_ (sgk T p).2))
section TG
variable {E : zE} {L : Nat} {w : wS} {T : Nat → Int} {n p k a m lm se : Nat}
theorem t_signs (hL : 200 ≤ L) (hT : TT E w T n) (hp : w_i w 12 0 23 = i_ p) (hpn : p ≤ n) : eS (fun Q => zL_X13_scan_p181 E L Q 76 0 w) (fun r w' => SI3 w T p r w') := by
  obtain ⟨⟨hn, hx10, hxr⟩, hA⟩ := hT.1
  obtain ⟨l2, l4, l5⟩ := hT.2.1.1
  have hsr := hT.2.2.2.2.2
  have loop : ∀ d s, s + d = 28 → eS (fun Q => zL_X13_scan_p181 E L Q (i_ (bst (T p) (T (p + 1)) s : Nat)) (i_ s) w) (fun r w' => SI3 w T p r w') := by
    intro d
    induction d with
    | zero =>
      intro s hs
      have : s = 28 := by omega
      subst this
      obtain ⟨b1, b2⟩ := @bst_bsv (T p) (T (p + 1))
      have hrg := @bst_rng (T p) (T (p + 1)) 28
      have hv1 := @sgn1_v (T p)
      have hv2 := @sgn2_v (T p) (T (p + 1))
      unfold sgn_ok at hv1
      refine eS_l (fun Q h => zt_X13_scan_p181 (by omega) h) ?_
      simp only [zb_X13_scan_p181, zb_X13_scan_p326, l5, i_ofNat]
      rw [if_pos_fun ((i_le (by omega) (by omega)).mpr (by omega))]
      by_cases h76 : bst (T p) (T (p + 1)) 28 = 76
      · rw [if_pos_fun (by rw [h76]; rfl)]
        refine eS_ret ⟨frm.rf, .inl ⟨?_, by rw [h76]; rfl⟩⟩
        rw [b1] at h76
        unfold bsv at h76
        unfold sgk
        split at h76
        · rename_i h2
          rw [if_pos h2]
          simp only
          split at h76
          · assumption
          · omega
        · omega
      · rw [if_neg_fun (fun q => h76 (by rw [show (76 : Int32) = i_ 76 from rfl] at q; have := (i_eq (by omega) (by omega)).mp q; omega))]
        rw [show i_ (bst (T p) (T (p + 1)) 28 : Nat) - 40 = i_ (bst (T p) (T (p + 1)) 28 - 40 : Nat) by rw [show (40 : Int32) = i_ 40 from rfl, i_sub]; congr 1; omega]
        refine eS_and (i_inb (by omega) (by omega)) ?_
        rw [i_nat' (by omega)]
        refine eS_ex (38 + (bst (T p) (T (p + 1)) 28 - 40)) (zK_w hA (by omega) (hsr _ (by omega))) ?_
        refine eS_ret ⟨frm_i rfl, .inr ⟨?_, ?_, ?_⟩⟩
        · intro e
          rw [b1] at h76
          unfold bsv at h76
          unfold sgk at e
          split at h76
          · rename_i h2
            rw [if_pos h2] at e
            simp only at e
            rw [if_pos e] at h76
            exact h76 rfl
          · rename_i h2
            rw [if_neg h2] at e
            exact h2 e
        · congr 3
          rw [b1] at h76 ⊢
          unfold bsv at h76 ⊢
          unfold sgk
          split
          · rename_i h2
            rw [if_pos h2] at h76
            split at h76
            · omega
            · rename_i h3
              rw [if_neg h3]
              simp only
              congr 1
              omega
          · simp only
            congr 1
            omega
        · simp only [Rii, Rgi, Rpi, Rai, Rbi, Rri, Rni, Rdi, Roi, Rti, Rzi, RCi, RSi]
          rw [if_pos (by decide), hp, (sgl_kl _ (by omega)).1, i_add, cNn]
          congr 2
          rw [b1] at h76 ⊢
          rcases b2 with b2 | b2
          · omega
          · rw [b2]
            unfold sgk
            split <;> rfl
    | succ d ih =>
      intro s hs
      obtain ⟨g1, g2, g3⟩ := sgl_kl s (by omega)
      have hgc := sgl_kc s (by omega)
      have hrg := @bst_rng (T p) (T (p + 1)) s
      have hr0 := hxr p
      have hr1 := hxr (p + 1)
      have hch : ∀ j, j < (sgl.getD s []).length → 0 ≤ (sgl.getD s []).getD j 0 ∧ (sgl.getD s []).getD j 0 < 128 := by
        have : ∀ s, s < 28 → ∀ j, j < (sgl.getD s []).length → 0 ≤ (sgl.getD s []).getD j 0 ∧ (sgl.getD s []).getD j 0 < 128 := by decide +kernel
        exact this s (by omega)
      have next : ∀ x3 : Int32, x3 = i_ (bst (T p) (T (p + 1)) (s + 1) : Nat) → eS (fun Q => zb_X13_scan_p293 E L Q x3 (i_ s) w) (fun r w' => SI3 w T p r w') := by
        intro x3 e
        subst e
        simp only [zb_X13_scan_p293]
        rw [i_1, i_add, cN1]
        exact ih (s + 1) (by omega)
      have hno : mt (T p) (T (p + 1)) s = false → bst (T p) (T (p + 1)) (s + 1) = bst (T p) (T (p + 1)) s := by
        intro h
        conv => lhs; unfold bst
        rw [h, if_neg (by simp)]
      have e251f : mt (T p) (T (p + 1)) s = false → eS (fun Q => zb_X13_scan_p251 E L Q (i_ (bst (T p) (T (p + 1)) s : Nat)) (i_ s) 0 w) (fun r w' => SI3 w T p r w') := by
        intro h
        simp only [zb_X13_scan_p251]
        rw [if_pos_fun trivial]
        exact next _ (by rw [hno h])
      have e251t : mt (T p) (T (p + 1)) s = true → eS (fun Q => zb_X13_scan_p251 E L Q (i_ (bst (T p) (T (p + 1)) s : Nat)) (i_ s) 1 w) (fun r w' => SI3 w T p r w') := by
        intro h
        have hyes : (bst (T p) (T (p + 1)) s = 76 ∨ (sgl.getD (bst (T p) (T (p + 1)) s - 40) []).length < (sgl.getD s []).length) → i_ 40 + i_ s = i_ (bst (T p) (T (p + 1)) (s + 1) : Nat) := by
          intro h2
          have : bst (T p) (T (p + 1)) (s + 1) = 40 + s := by
            conv => lhs; unfold bst
            rw [h, if_pos (by simpa using h2)]
          rw [this, i_add]
          congr 1
        simp only [zb_X13_scan_p251, zb_X13_scan_p287, i_ofNat]
        rw [if_neg_fun (by decide)]
        by_cases h76 : bst (T p) (T (p + 1)) s = 76
        · rw [if_pos_fun (by rw [h76]; rfl)]
          exact next _ (hyes (.inl h76))
        · rw [if_neg_fun (fun q => h76 (by rw [show (76 : Int32) = i_ 76 from rfl] at q; have := (i_eq (by omega) (by omega)).mp q; omega))]
          refine eS_and (by rw [l5]; exact i_inb (by omega) (by omega)) ?_
          refine eS_ex (38 + s) (zK_w hA (by omega) (by rw [i_nat' (by omega)]; exact hsr _ (by omega))) ?_
          rw [show i_ (bst (T p) (T (p + 1)) s : Nat) - 40 = i_ (bst (T p) (T (p + 1)) s - 40 : Nat) by rw [show (40 : Int32) = i_ 40 from rfl, i_sub]; congr 1; omega]
          refine eS_and (by rw [l5]; exact i_inb (by omega) (by omega)) ?_
          refine eS_ex (38 + (bst (T p) (T (p + 1)) s - 40)) (zK_w hA (by omega) (by rw [i_nat' (by omega)]; exact hsr _ (by omega))) ?_
          have g4 := sgl_kl (bst (T p) (T (p + 1)) s - 40) (by omega)
          rw [g1, g4.1]
          by_cases hlt : (sgl.getD (bst (T p) (T (p + 1)) s - 40) []).length < (sgl.getD s []).length
          · rw [if_neg_fun (fun q => by have := (i_le (by omega) (by omega)).mp q; omega)]
            exact next _ (hyes (.inr hlt))
          · rw [if_pos_fun ((i_le (by omega) (by omega)).mpr (by omega))]
            refine next _ ?_
            congr 2
            conv => rhs; unfold bst
            rw [h, decide_eq_false h76, decide_eq_false hlt, if_neg (by decide)]
      have hfalse : ∀ x6 : Int32, mt (T p) (T (p + 1)) s = false → eS (fun Q => zL_X13_scan_p197 E L Q (i_ (bst (T p) (T (p + 1)) s : Nat)) (i_ s) 0 x6 w) (fun r w' => SI3 w T p r w') := by
        intro x6 h
        refine eS_l (fun Q h => zt_X13_scan_p197 (by omega) h) ?_
        simp only [zb_X13_scan_p197]
        refine eS_and (by rw [l5]; exact i_inb (by omega) (by omega)) ?_
        refine eS_ex (38 + s) (zK_w hA (by omega) (by rw [i_nat' (by omega)]; exact hsr _ (by omega))) ?_
        by_cases hc : Int32.ofNat (kw_sl (38 + s)) ≤ x6
        · rw [if_pos_fun hc]
          exact e251f h
        · rw [if_neg_fun hc, if_pos_fun trivial]
          exact e251f h
      have hend : ∀ j, (sgl.getD s []).length ≤ j → j ≤ 2 → mt (T p) (T (p + 1)) s = true → eS (fun Q => zL_X13_scan_p197 E L Q (i_ (bst (T p) (T (p + 1)) s : Nat)) (i_ s) 1 (i_ j) w) (fun r w' => SI3 w T p r w') := by
        intro j hj hj2 h
        refine eS_l (fun Q h => zt_X13_scan_p197 (by omega) h) ?_
        simp only [zb_X13_scan_p197, i_ofNat]
        refine eS_and (by rw [l5]; exact i_inb (by omega) (by omega)) ?_
        refine eS_ex (38 + s) (zK_w hA (by omega) (by rw [i_nat' (by omega)]; exact hsr _ (by omega))) ?_
        rw [g1, if_pos_fun ((i_le (by omega) (by omega)).mpr (by omega))]
        exact e251t h
      -- one sign compared
      have one : ∀ j, j < (sgl.getD s []).length → (T (p + j) = (sgl.getD s []).getD j 0 → eS (fun Q => zL_X13_scan_p197 E L Q (i_ (bst (T p) (T (p + 1)) s : Nat)) (i_ s) 1 (i_ (j + 1 : Nat)) w) (fun r w' => SI3 w T p r w')) → (T (p + j) ≠ (sgl.getD s []).getD j 0 → mt (T p) (T (p + 1)) s = false) → eS (fun Q => zL_X13_scan_p197 E L Q (i_ (bst (T p) (T (p + 1)) s : Nat)) (i_ s) 1 (i_ j) w) (fun r w' => SI3 w T p r w') := by
        intro j hj hy hn2
        have hrj := hxr (p + j)
        have hcj := hch j hj
        refine eS_l (fun Q h => zt_X13_scan_p197 (by omega) h) ?_
        simp only [zb_X13_scan_p197, zb_X13_scan_p243, i_ofNat]
        refine eS_and (by rw [l5]; exact i_inb (by omega) (by omega)) ?_
        refine eS_ex (38 + s) (zK_w hA (by omega) (by rw [i_nat' (by omega)]; exact hsr _ (by omega))) ?_
        rw [g1, if_neg_fun (fun q => by have := (i_le (by omega) (by omega)).mp q; omega), if_neg_fun (by decide)]
        refine eS_k (fun Q hq => t_here (k := j) (by omega) hT hp (by omega) hq) ?_
        refine eS_and (by rw [l5]; exact i_inb (by omega) (by omega)) ?_
        refine eS_ex (38 + s) (zK_w hA (by omega) (by rw [i_nat' (by omega)]; exact hsr _ (by omega))) ?_
        refine eS_and (i_inb (by omega) (by rw [g1]; omega)) ?_
        rw [i_nat' (show j < 2147483648 by omega), hgc j hj, i_1, i_add, cN1]
        by_cases hc : T (p + j) = (sgl.getD s []).getD j 0
        · rw [if_neg_fun (not_not_intro (by rw [hc]))]
          exact hy hc
        · rw [if_pos_fun (c := ¬ (i_ (T (p + j)) = i_ ((sgl.getD s []).getD j 0))) (fun q => hc ((i_eq (by omega) (by omega)).mp q))]
          exact hfalse _ (hn2 hc)
      refine eS_l (fun Q h => zt_X13_scan_p181 (by omega) h) ?_
      simp only [zb_X13_scan_p181, l5, i_ofNat]
      rw [if_neg_fun (fun q => by have := (i_le (by omega) (by omega)).mp q; omega)]
      refine one 0 g2 (fun h0 => ?_) (fun h0 => ?_)
      all_goals rw [Nat.add_zero] at h0
      · by_cases hl1 : (sgl.getD s []).length ≤ 1
        · exact hend 1 hl1 (by omega) (by unfold mt; rw [decide_eq_true h0, decide_eq_true hl1]; rfl)
        · refine one 1 (by omega) (fun h1 => ?_) (fun h1 => ?_)
          · exact hend 2 g3 (by omega) (by unfold mt; rw [decide_eq_true h0, decide_eq_true h1]; simp)
          · unfold mt
            rw [decide_eq_false h1, decide_eq_false hl1]
            simp
      · unfold mt
        rw [decide_eq_false h0]
        rfl
  exact loop 28 0 (by omega)
end TG
