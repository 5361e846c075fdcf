/-! ===== TOKENS, part 3: the words ===== -/
/-- the words in their order, then the two names that are there -/
def wds : List (List Int) := [[65, 70, 84, 69, 82], [65, 76, 84], [65, 78, 68], [66, 79, 79, 76], [66, 89, 84, 69], [67, 65, 83, 69], [67, 72, 65, 78], [69, 76, 83, 69], [70, 65, 76, 83, 69], [70, 79, 82], [70, 85, 78, 67, 84, 73, 79, 78], [73, 70], [73, 78, 84], [73, 83], [77, 73, 78, 85, 83], [77, 79, 83, 84, 78, 69, 71], [77, 79, 83, 84, 80, 79, 83], [78, 79, 84], [79, 70], [79, 82], [80, 65, 82], [80, 76, 85, 83], [80, 82, 73], [80, 82, 79, 67], [80, 82, 79, 84, 79, 67, 79, 76], [82, 69, 83, 85, 76, 84], [83, 69, 81], [83, 73, 90, 69], [83, 75, 73, 80], [83, 84, 79, 80], [84, 73, 77, 69, 82], [84, 73, 77, 69, 83], [84, 82, 85, 69], [86, 65, 76], [86, 65, 76, 79, 70], [87, 72, 73, 76, 69], [115, 99, 114, 101, 101, 110], [107, 101, 121, 98, 111, 97, 114, 100]]
theorem NT2.frm {P : Nat → Nat → Bool} {w w' : wS} {ns : List (List Int)} {lm : Nat} (h : NT2 w ns lm) (hf : frm P w w') (hp : (P 1 12 = false ∧ P 1 13 = false ∧ P 1 14 = false) ∧ P 1 15 = false ∧ P 1 16 = false ∧ P 1 17 = false ∧ P 1 18 = false) : NT2 w' ns lm := by
  obtain ⟨⟨p12, p13, p14⟩, p15, p16, p17, p18⟩ := hp
  obtain ⟨⟨a1, a2⟩, a3, a4, a5, a6, a7, a8⟩ := h
  refine ⟨⟨by rw [hf.i p17]; exact a1, by rw [hf.i p18]; exact a2⟩, a3, by simp only [hf.n]; exact a4, fun k hk => ?_, fun h hh => ?_, fun k hk => ?_, a8⟩
  · obtain ⟨p, e1, e2, e3, e4⟩ := a5 k hk
    exact ⟨p, by rw [hf.a p12]; exact e1, e2, by rw [hf.a p13]; exact e3, fun j hj => by rw [hf.a p16]; exact e4 j hj⟩
  · rw [hf.a p15]
    exact a6 h hh
  · rw [hf.a p14]
    exact a7 k hk
theorem vp_nar_b0 : ∀ c : Nat, c < 128 → vp_nar .byte ((i_ c : Int32).toInt8.toInt32) = i_ c := by decide +kernel
theorem vp_nar_b {c : Int} (h : 0 ≤ c ∧ c < 128) : vp_nar .byte ((i_ c : Int32).toInt8.toInt32) = i_ c := by
  obtain ⟨k, rfl⟩ := Int.eq_ofNat_of_zero_le h.1
  exact vp_nar_b0 k (by omega)
theorem getD_mem0 {s : List Int} {j : Nat} (h : j < s.length) : s.getD j 0 ∈ s := by
  rw [List.getD_eq_getElem?_getD, List.getElem?_eq_getElem h]
  exact List.getElem_mem h
theorem wds_all : ∀ s ∈ wds, asc s ∧ s.length ≤ 16 ∧ ∀ c ∈ s, c ≠ 32 := by
  unfold asc
  decide +kernel
theorem wds_nd : wds.Nodup := by decide +kernel
theorem wds_len : wds.length = 38 := by decide +kernel
theorem wds_kw : (kw_st.getD 0 ("", 0, "", [])).2.2.2 = (wds.map (fun s => s.map i_ ++ [(32 : Int32)])).flatten := by decide +kernel

/-- where a word begins in the row of all -/
def wof (m : Nat) : Nat := ((wds.take m).map (fun s => s.length + 1)).sum
theorem wof_at : ∀ m, m < 38 → ∀ j, j ≤ (wds.getD m []).length → kw_sc 0 (wof m + j) = if j < (wds.getD m []).length then i_ ((wds.getD m []).getD j 0) else 32 := by decide +kernel
theorem wof_next : ∀ m, m < 38 → wof (m + 1) = wof m + (wds.getD m []).length + 1 := by decide +kernel
theorem wof_end : wof 38 = kw_sl 0 := by decide +kernel
theorem wof_le : ∀ m, m ≤ 38 → wof m ≤ 1000 := by decide +kernel
theorem wof_mono : ∀ m, m ≤ 38 → wof m ≤ wof 38 := by decide +kernel
def wtot (m : Nat) : Nat := ((wds.take m).map List.length).sum
theorem wtot_next : ∀ m, m < 38 → wtot (m + 1) = wtot m + (wds.getD m []).length := by decide +kernel
theorem wtot_le : ∀ m, m ≤ 38 → wtot m ≤ 300 := by decide +kernel
theorem wds_take : ∀ m, m < 38 → wds.take (m + 1) = wds.take m ++ [wds.getD m []] := by decide +kernel
theorem wds_new : ∀ m, m < 38 → wds.getD m [] ∉ wds.take m := by decide +kernel
theorem if_neg_fun {c : Prop} [Decidable c] {A B : (kx_Rs → wS → Prop) → Prop} (h : ¬ c) : (fun Q : kx_Rs → wS → Prop => if c then A Q else B Q) = B := by
  funext Q
  rw [if_neg h]
theorem if_pos_fun {c : Prop} [Decidable c] {A B : (kx_Rs → wS → Prop) → Prop} (h : c) : (fun Q : kx_Rs → wS → Prop => if c then A Q else B Q) = A := by
  funext Q
  rw [if_pos h]
section KW
variable {E : zE} {L : Nat}
theorem ow_19 {E : zE} {w : wS} : w_own w wG E.2.1 1 1 0 19 := ow_1_0_19
theorem i_ofNat (n : Nat) : Int32.ofNat n = i_ n := by
  unfold i_
  rw [Int32.ofInt_eq_ofNat]
def K29 : List Nat := [12, 13, 14, 15, 16, 17, 18, 19]
theorem K29_19 {w w' : wS} (h : frm (pk 1 [19]) w w') : frm (pk 1 K29) w w' := h.wk (fun c k hp => by
  unfold pk K29 at *
  cases hc : Nat.beq c 1 with
  | false => rfl
  | true =>
    rw [hc] at hp
    simp only [Bool.true_and, List.any_cons, List.any_nil, Bool.or_eq_false_iff] at hp ⊢
    simp [hp])
theorem K29_N {w w' : wS} (h : frm (pk 1 [12, 13, 14, 15, 16, 17, 18]) w w') : frm (pk 1 K29) w w' := h.wk (fun c k hp => by
  unfold pk K29 at *
  cases hc : Nat.beq c 1 with
  | false => rfl
  | true =>
    rw [hc] at hp
    simp only [Bool.true_and, List.any_cons, List.any_nil, Bool.or_eq_false_iff] at hp ⊢
    simp [hp])
/-- a word comes to the row of figures, then to the table -/
theorem c2_known_word (hA : zA E) (hL : 200 ≤ L) {m : Nat} (hm : m < 38) {w0 : wS} {R : kx_Rs → wS → Prop} (hnext : ∀ w', NT2 w' (wds.take (m + 1)) (wtot (m + 1)) → w_n w' 1 0 19 = 16 → frm (pk 1 K29) w0 w' → eS (fun Q => zL_X2_known_p50 E L Q 0 (i_ (wof (m + 1) : Nat)) w') R) : ∀ d j, j + d = (wds.getD m []).length → ∀ w, NT2 w (wds.take m) (wtot m) → w_n w 1 0 19 = 16 → (∀ i, i < j → w_a w 1 0 19 i = i_ ((wds.getD m []).getD i 0)) → frm (pk 1 K29) w0 w → eS (fun Q => zL_X2_known_p50 E L Q (i_ j) (i_ (wof m + j : Nat)) w) R := by
  have hmem : wds.getD m [] ∈ wds := getD_mem (by rw [wds_len]; exact hm)
  obtain ⟨hs, hs16, hs32⟩ := wds_all _ hmem
  have hw1 := wof_le m (by omega)
  have hw2 := wof_next m hm
  have hw3 := wof_le (m + 1) (by omega)
  have hwe : wof (m + 1) ≤ kw_sl 0 := by
    rw [← wof_end]
    exact wof_mono (m + 1) (by omega)
  have hsl := kw_sl_lt 0 (by decide)
  intro d
  induction d with
  | zero =>
    intro j hj w hN h19 hfig hfr
    refine eS_l (fun Q h => zt_X2_known_p50 (by omega) h) ?_
    simp only [zb_X2_known_p50]
    refine eS_ex 0 ⟨hA, by decide, rfl⟩ ?_
    simp only [i_ofNat, i_nat' (show wof m + j < 2147483648 by omega)]
    rw [if_neg_fun (fun q => by have := (i_le (by omega) (by omega)).mp q; omega)]
    refine eS_ex 0 ⟨hA, by decide, rfl⟩ ?_
    refine eS_and (i_inb' (by omega) (by omega)) ?_
    rw [wof_at m hm j (by omega), if_neg (show ¬ j < (wds.getD m []).length by omega)]
    simp only [if_true]
    have hjl : j = (wds.getD m []).length := by omega
    subst hjl
    refine eS_c (r := .inl (some (.int (i_ (wds.take m).length)))) (fun Q hq => c2_name (c := 1) (o := 0) (k := 19) (f := 0) (by omega) ow_19 hN (s := wds.getD m []) ⟨by omega, by omega, fun j hj => by rw [Nat.zero_add]; exact hfig j hj⟩ (by omega) hs hs16 ⟨by simp [wds_len]; omega, by have := wtot_le m (by omega); omega⟩ (.inr rfl) oa_1_0_19 (fun q hq1 hq2 => absurd (hq2 ▸ getD_mem hq1) (wds_new m hm)) (fun _ => hq)) ?_
    intro hle
    simp only [wk1, hle, forall_const, zb_X2_known_p99]
    rw [i_1, i_add, show ((wof m + (wds.getD m []).length : Nat) : Int) + 1 = ((wof (m + 1) : Nat) : Int) by omega]
    have hroom : (wds.take m).length < 1400 ∧ wtot m + (wds.getD m []).length ≤ 4000 := ⟨by simp [wds_len]; omega, by have := wtot_le m (by omega); omega⟩
    have hNT := nm_add_NT (c := 1) (o := 0) (k := 19) (f := 0) hN (s := wds.getD m []) ⟨by omega, by omega, fun j hj => by rw [Nat.zero_add]; exact hfig j hj⟩ hs hs16 hroom (wds_new m hm)
    rw [← wds_take m hm, ← wtot_next m hm] at hNT
    refine hnext _ hNT ?_ (hfr.tr (K29_N nmf))
    rw [nmn]
    exact h19
  | succ d ih =>
    intro j hj w hN h19 hfig hfr
    refine eS_l (fun Q h => zt_X2_known_p50 (by omega) h) ?_
    simp only [zb_X2_known_p50]
    refine eS_ex 0 ⟨hA, by decide, rfl⟩ ?_
    simp only [i_ofNat, i_nat' (show wof m + j < 2147483648 by omega)]
    rw [if_neg_fun (fun q => by have := (i_le (by omega) (by omega)).mp q; omega)]
    refine eS_ex 0 ⟨hA, by decide, rfl⟩ ?_
    refine eS_and (i_inb' (by omega) (by omega)) ?_
    rw [wof_at m hm j (by omega), if_pos (show j < (wds.getD m []).length by omega)]
    have hc := asc_getD hs j
    have hne : i_ ((wds.getD m []).getD j 0) ≠ 32 := by
      intro e
      rw [show (32 : Int32) = i_ 32 from rfl] at e
      have e2 := (i_eq (by omega) (by omega)).mp e
      exact hs32 _ (getD_mem0 (by omega)) e2
    rw [if_neg_fun hne]
    refine eS_and (i_inb' (by omega) (by omega)) ?_
    simp only [zb_X2_known_p99, vp_nar_b hc, i_nat' (show j < 2147483648 by omega)]
    rw [i_1, i_add, i_add, show ((wof m + j : Nat) : Int) + 1 = ((wof m + (j + 1) : Nat) : Int) by omega, show (j : Int) + 1 = ((j + 1 : Nat) : Int) by omega]
    have hf1 : frm (pk 1 [19]) w (ws_a w 1 0 19 j (i_ ((wds.getD m []).getD j 0))) := frm_a rfl
    refine ih (j + 1) (by omega) _ (hN.frm hf1 (by decide)) (by rw [hf1.n]; exact h19) (fun i hi => ?_) (hfr.tr (K29_19 hf1))
    rw [Raa]
    by_cases e : i = j
    · rw [if_pos ⟨rfl, rfl, rfl, e⟩, e]
    · rw [if_neg (fun q => e q.2.2.2)]
      exact hfig i (by omega)
theorem c2_known_loop (hA : zA E) (hL : 200 ≤ L) {w0 : wS} : ∀ d m, m + d = 38 → ∀ w, NT2 w (wds.take m) (wtot m) → w_n w 1 0 19 = 16 → frm (pk 1 K29) w0 w → eS (fun Q => zL_X2_known_p50 E L Q 0 (i_ (wof m : Nat)) w) (fun r w' => r = .inl none ∧ NT2 w' wds (wtot 38) ∧ frm (pk 1 K29) w0 w') := by
  intro d
  induction d with
  | zero =>
    intro m hm w hN h19 hfr
    have : m = 38 := by omega
    subst this
    have hw := wof_le 38 (by omega)
    refine eS_l (fun Q h => zt_X2_known_p50 (by omega) h) ?_
    simp only [zb_X2_known_p50]
    refine eS_ex 0 ⟨hA, by decide, rfl⟩ ?_
    rw [i_ofNat, ← wof_end, if_pos_fun ((i_le (by omega) (by omega)).mpr (by omega))]
    rw [show wds.take 38 = wds by decide +kernel] at hN
    exact eS_ret ⟨rfl, hN, hfr⟩
  | succ d ih =>
    intro m hm w hN h19 hfr
    have h := c2_known_word (E := E) (L := L) hA hL (m := m) (by omega) (w0 := w0) (R := fun r w' => r = .inl none ∧ NT2 w' wds (wtot 38) ∧ frm (pk 1 K29) w0 w') (fun w' a b c => ih (m + 1) (by omega) w' a b c) (wds.getD m []).length 0 (by omega) w hN h19 (fun i hi => by omega) hfr
    exact h
/-- lengths of the arrays of tokens -/
def TL2 (w : wS) : Prop := (w_n w 1 0 0 = 6000 ∧ w_n w 1 0 2 = 12004 ∧ w_n w 1 0 3 = 12004 ∧ w_n w 1 0 4 = 12004 ∧ w_n w 1 0 5 = 12004 ∧ w_n w 1 0 6 = 12004 ∧ w_n w 1 0 10 = 6000) ∧ w_n w 1 0 12 = 3064 ∧ w_n w 1 0 13 = 3064 ∧ w_n w 1 0 14 = 3064 ∧ w_n w 1 0 15 = 256 ∧ w_n w 1 0 16 = 6400 ∧ w_n w 1 0 19 = 16
theorem prv_nil (h : Int32) : prv [] h 0 = -1 := rfl
/-- the table of names as it begins -/
theorem c2_known (hA : zA E) (hL : 300 ≤ L) {w : wS} (hT : TL2 w) : eW w (fun Q => zw E L kt_M243 [.ref (w_adr E.2.1 1 0)] w Q) (fun r w' => r = .inl none ∧ NT2 w' wds (wtot 38) ∧ frm (pk 1 K29) w w') := by
  refine eW_of (A := fun Q => zb_X2_known_p0 E L Q w) (fun Q h => zt_X2_known_p0 (by omega) h) ?_
  simp only [zb_X2_known_p0]
  have loop : ∀ d j, j + d = 256 → ∀ w', frm (pk 1 [15]) w w' → (∀ i, i < j → w_a w' 1 0 15 i = i_ (-1)) → eS (fun Q => zL_X2_known_p15 E L Q 0 (i_ j) w') (fun r w' => r = .inl none ∧ NT2 w' wds (wtot 38) ∧ frm (pk 1 K29) w w') := by
    intro d
    induction d with
    | zero =>
      intro j hj w' hfr hall
      refine eS_l (fun Q h => zt_X2_known_p15 (by omega) h) ?_
      simp only [zb_X2_known_p15]
      rw [if_pos_fun (by rw [show (256 : Int32) = i_ 256 from rfl]; exact (i_le (by omega) (by omega)).mpr (by omega))]
      obtain ⟨-, t12, t13, t14, t15, t16, t19⟩ := hT
      have hfr2 : frm (pk 1 K29) w (ws_i (ws_i w' 1 0 17 0) 1 0 18 0) := ((hfr.wk (fun c k hp => by
        unfold pk K29 at *
        cases hc : Nat.beq c 1 with
        | false => rfl
        | true =>
          rw [hc] at hp
          simp only [Bool.true_and, List.any_cons, List.any_nil, Bool.or_eq_false_iff] at hp ⊢
          simp [hp])).tr (frm_i rfl)).tr (frm_i rfl)
      refine c2_known_loop hA (by omega) 38 0 (by omega) _ ⟨⟨?_, ?_⟩, ⟨?_, ?_⟩, ?_, ?_, fun h hh => ?_, ?_, ?_, ?_⟩ (by simp only [Rii, Rgi, Rpi, Rai, Rbi, Rri, Rni, Rdi, Roi, Rti, Rzi, RCi, RSi]; rw [hfr.n]; exact t19) hfr2
      · simp only [Rii, Rgi, Rpi, Rai, Rbi, Rri, Rni, Rdi, Roi, Rti, Rzi, RCi, RSi]
        simp [i_0]
      · simp only [Rii, Rgi, Rpi, Rai, Rbi, Rri, Rni, Rdi, Roi, Rti, Rzi, RCi, RSi]
        simp [i_0, wtot]
      · simp
      · simp [wtot]
      · simp only [Rii, Rgi, Rpi, Rai, Rbi, Rri, Rni, Rdi, Roi, Rti, Rzi, RCi, RSi, hfr.n]
        exact ⟨t12, t13, t14, t15, t16⟩
      · intro k hk
        simp at hk
      · simp only [Rii, Rgi, Rpi, Rai, Rbi, Rri, Rni, Rdi, Roi, Rti, Rzi, RCi, RSi]
        have e1 : h.toNatClampNeg = h.toInt.toNat := rfl
        rw [hall _ (by omega)]
        simp [prv]
      · intro k hk
        simp at hk
      · simp
      · intro s hs
        simp at hs
    | succ d ih =>
      intro j hj w' hfr hall
      refine eS_l (fun Q h => zt_X2_known_p15 (by omega) h) ?_
      simp only [zb_X2_known_p15]
      rw [if_neg_fun (fun q => by rw [show (256 : Int32) = i_ 256 from rfl] at q; have := (i_le (by omega) (by omega)).mp q; omega)]
      refine eS_and (i_inb' (by omega) (by rw [hfr.n, hT.2.2.2.2.1]; omega)) ?_
      rw [i_1, i_add, show (j : Int) + 1 = ((j + 1 : Nat) : Int) by omega, i_nat' (show j < 2147483648 by omega)]
      refine ih (j + 1) (by omega) _ (hfr.tr (frm_a rfl)) (fun i hi => ?_)
      rw [Raa]
      by_cases e : i = j
      · rw [if_pos ⟨rfl, rfl, rfl, e⟩]
        rfl
      · rw [if_neg (fun q => e q.2.2.2)]
        exact hall i (by omega)
  refine eS_mono (loop 256 0 (by omega) w frm.rf (fun i hi => by omega)) (fun r w' h _ => h)
end KW
