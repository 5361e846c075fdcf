/-! ===== PARSERS, part 2: frames; MeetingHouse's small steps ===== -/
def AE_ : String := "java/lang/ArithmeticException"
def HT_ : String := "MeetingHouseModel$Halt"
/-- what the parser may change -/
def pX (c k : Nat) : Bool := Nat.beq c 99 || (Nat.beq c 14 || ((Nat.beq c 2 && (Nat.beq k 1 || Nat.beq k 2)) || ((Nat.beq c 3 && (Nat.beq k 0 || Nat.beq k 3)) || (Nat.beq c 4 && (Nat.beq k 3 || Nat.beq k 4)))))
/-- and the count of names that are declared -/
def pY (c k : Nat) : Bool := pX c k || (Nat.beq c 4 && Nat.beq k 5)
def fxm (P : Nat → Nat → Bool) (w w' : wS) : Prop := ∀ c k, P c k = false → ∀ o, (w_i w' c o k = w_i w c o k ∧ w_g w' c o k = w_g w c o k ∧ w_p w' c o k = w_p w c o k) ∧ (w_a w' c o k = w_a w c o k ∧ w_b w' c o k = w_b w c o k ∧ w_r w' c o k = w_r w c o k) ∧ w_n w' c o k = w_n w c o k ∧ w_d w' c o k = w_d w c o k
def FX (w w' : wS) : Prop := fxm pX w w' ∧ wle w w' ∧ w_z w ≤ w_z w'
/-- the same, but for the count of names that are declared -/
def FY (w w' : wS) : Prop := fxm pY w w' ∧ wle w w' ∧ w_z w ≤ w_z w'
theorem fxm.rf {P : Nat → Nat → Bool} {w : wS} : fxm P w w := fun _ _ _ _ => ⟨⟨rfl, rfl, rfl⟩, ⟨rfl, rfl, rfl⟩, rfl, rfl⟩
theorem fxm.tr {P : Nat → Nat → Bool} {w w' w'' : wS} (h : fxm P w w') (h' : fxm P w' w'') : fxm P w w'' := fun c k hp o => ⟨⟨(h' c k hp o).1.1.trans (h c k hp o).1.1, (h' c k hp o).1.2.1.trans (h c k hp o).1.2.1, (h' c k hp o).1.2.2.trans (h c k hp o).1.2.2⟩, ⟨(h' c k hp o).2.1.1.trans (h c k hp o).2.1.1, (h' c k hp o).2.1.2.1.trans (h c k hp o).2.1.2.1, (h' c k hp o).2.1.2.2.trans (h c k hp o).2.1.2.2⟩, (h' c k hp o).2.2.1.trans (h c k hp o).2.2.1, (h' c k hp o).2.2.2.trans (h c k hp o).2.2.2⟩
theorem FX.rf {w : wS} : FX w w := ⟨fxm.rf, wle_rf w, Nat.le_refl _⟩
theorem FX.tr {w w' w'' : wS} (h : FX w w') (h' : FX w' w'') : FX w w'' := ⟨h.1.tr h'.1, wle_tr h.2.1 h'.2.1, Nat.le_trans h.2.2 h'.2.2⟩
theorem FX.y {w w' : wS} (h : FX w w') : FY w w' := ⟨fun c k hp o => h.1 c k (by
  unfold pY at hp
  simp only [Bool.or_eq_false_iff] at hp
  exact hp.1) o, h.2⟩
theorem FY.rf {w : wS} : FY w w := ⟨fxm.rf, wle_rf w, Nat.le_refl _⟩
theorem FY.tr {w w' w'' : wS} (h : FY w w') (h' : FY w' w'') : FY w w'' := ⟨h.1.tr h'.1, wle_tr h.2.1 h'.2.1, Nat.le_trans h.2.2 h'.2.2⟩
theorem FX.ty {w w' w'' : wS} (h : FX w w') (h' : FY w' w'') : FY w w'' := h.y.tr h'
theorem pX_ne {c k c' k' : Nat} (h : pX c k = true) (h' : pX c' k' = false) : ¬ (k' = k ∧ c' = c) := by
  rintro ⟨rfl, rfl⟩
  rw [h] at h'
  cases h'
section FXS
variable {w : wS} {c o k : Nat}
theorem FX_i {v : Int32} (h : pX c k = true) : FX w (ws_i w c o k v) := ⟨fun c' k' hp o' => ⟨⟨by rw [Rii, if_neg (fun q => pX_ne h hp ⟨q.1, q.2.1⟩)], rfl, rfl⟩, ⟨rfl, rfl, rfl⟩, rfl, rfl⟩, fun _ _ _ h => h, Nat.le_refl _⟩
theorem FX_p {v : Option Nat} (h : pX c k = true) : FX w (ws_p w c o k v) := ⟨fun c' k' hp o' => ⟨⟨rfl, rfl, by rw [Rpp, if_neg (fun q => pX_ne h hp ⟨q.1, q.2.1⟩)]⟩, ⟨rfl, rfl, rfl⟩, rfl, rfl⟩, fun _ _ _ h => h, Nat.le_refl _⟩
theorem FX_r {j : Nat} {v : Option Nat} (h : pX c k = true) : FX w (ws_r w c o k j v) := ⟨fun c' k' hp o' => ⟨⟨rfl, rfl, rfl⟩, ⟨rfl, rfl, by funext j'; rw [Rrr, if_neg (fun q => pX_ne h hp ⟨q.1, q.2.1⟩)]⟩, rfl, rfl⟩, fun _ _ _ h => h, Nat.le_refl _⟩
end FXS
/-- a step to the next token; a fault that is told -/
def nx (w : wS) (p : Nat) : wS := ws_i w 4 0 3 (i_ (p + 1 : Nat))
def fl2 (w : wS) (k : Int) (ln : Nat) : wS := ws_i (ws_i w 2 0 1 (i_ k)) 2 0 2 (i_ ln)
def kln (K : pK) (p : Nat) : Nat := (kA K p).2.1
theorem FX_nx {w : wS} {p : Nat} : FX w (nx w p) := FX_i rfl
theorem FX_fl2 {w : wS} {k : Int} {ln : Nat} : FX w (fl2 w k ln) := (FX_i rfl).tr (FX_i rfl)
theorem fl2_k {w : wS} {k : Int} {ln : Nat} : w_i (fl2 w k ln) 2 0 1 = i_ k := by
  unfold fl2
  rw [Rii, if_neg (by decide), Rii, if_pos ⟨rfl, rfl, rfl⟩]
theorem fl2_l {w : wS} {k : Int} {ln : Nat} : w_i (fl2 w k ln) 2 0 2 = i_ ln := by
  unfold fl2
  rw [Rii, if_pos ⟨rfl, rfl, rfl⟩]
section PC2
variable {E : zE} {L : Nat} {w : wS} {Q : kx_Rs → wS → Prop} {K : pK} {ns ms SS : List (List Int)} {sm p q : Nat}
theorem KC.fx {w' : wS} (h : KC E w K ns sm) (hf : FX w w') : KC E w' K ns sm := by
  have hp : ∀ k, pX 1 k = false := fun k => rfl
  refine ⟨h.1, ?_, fun k x hx => (h.2.2 k x hx).up ?_ ?_ ?_ ?_ ?_ (List.prefix_refl _) (Nat.le_refl _) (fun j _ => ?_)⟩
  · simp only [fun k o => (hf.1 1 k (hp k) o).2.2.1]
    exact h.2.1
  all_goals first
    | exact congrFun (hf.1 1 _ (hp _) 0).2.1.2.2 _
    | exact congrFun (hf.1 1 _ (hp _) 0).2.1.1 _
theorem CA.fx {w' : wS} (h : CA E w K ns sm p) (hf : FX w w') (hp : w_i w' 4 0 3 = w_i w 4 0 3) : CA E w' K ns sm p := ⟨⟨h.1.1.fx hf, h.1.2⟩, hp.trans h.2.1, h.2.2⟩
theorem KOK.nl (h : KOK K) (hp : p < K.length) (h1 : kk K p ≠ 75) (h2 : kk K p ≠ 76) : p + 1 < K.length := by
  by_cases e : p = K.length - 1
  · rcases h.2.2.1 with h3 | h3
    · rw [← e] at h3
      exact absurd h3 h1
    · rw [← e] at h3
      exact absurd h3 h2
  · omega
theorem KOK.bad (h : KOK K) (hp : p < K.length) (h1 : kk K p = 76) : p = K.length - 1 := by
  by_cases e : p + 1 < K.length
  · exact absurd h1 (h.2.1 p e).2
  · omega
theorem CA.nxt (h : CA E w K ns sm p) (h1 : kk K p ≠ 75) (h2 : kk K p ≠ 76) : CA E (nx w p) K ns sm (p + 1) := ⟨⟨h.1.1.fx FX_nx, h.1.2⟩, by unfold nx; rw [Rii, if_pos ⟨rfl, rfl, rfl⟩], h.1.2.nl h.2.2 h1 h2⟩
theorem c_first {x1 x2 : Int32} (hL : 19 ≤ L) (h : Q (.inr AE_) (ws_i (ws_i w 2 0 1 x1) 2 0 2 x2)) : zw E L kt_M55 [.ref (w_adr E.2.1 2 0), .int x1, .int x2] w Q := by
  refine zt_X3_first_p0 hL ?_
  simp only [zb_X3_first_p0]
  exact h
theorem c_unfit (hL : 60 ≤ L) (hC : CA E w K ns sm p) (h : Q (.inr AE_) (fl2 w 2 (kln K p))) : zw E L kt_M213 [.ref (w_adr E.2.1 4 0)] w Q := by
  refine zt_X5_unfit_p0 (by omega) ?_
  simp only [zb_X5_unfit_p0]
  refine c_line (by omega) hC ?_
  simp only [wk1]
  intro _
  refine c_first (by omega) ?_
  simp only [wk0]
  exact h
theorem c_look (hL : 60 ≤ L) (hC : CA E w K ns sm p) (h1 : kk K p ≠ 76 → Q (.inl none) w) (h2 : kk K p = 76 → Q (.inr AE_) (fl2 w 1 (kln K p))) : zw E L kt_M191 [.ref (w_adr E.2.1 4 0)] w Q := by
  have hp := hC.lt
  have hA := hC.1.1.1
  have hty := hC.ty
  have hk := hC.kkc
  obtain ⟨l2, l3, l4, l5, l6⟩ := hC.1.1.2.1
  have hpos := hC.2.1
  refine zt_X5_look_p0 (by omega) ?_
  simp only [zb_X5_look_p0, zb_X5_look_p30, hpos, l2, i_nat' (show p < 2147483648 by omega), hty]
  refine ⟨i_inb' (by omega) (by omega), ?_⟩
  by_cases h6 : (kA K p).1.1 = 6
  · rw [if_neg (not_not_intro (by rw [h6]))]
    refine c_line (by omega) hC ?_
    simp only [wk1]
    intro _
    refine c_first (by omega) ?_
    simp only [wk0]
    exact h2 (by omega)
  · rw [if_pos (eo_ne hA (by omega) (by omega) h6)]
    exact h1 (by omega)
theorem c_next (hL : 100 ≤ L) (hC : CA E w K ns sm p) (h5 : kk K p ≠ 75) (h6 : kk K p ≠ 76) (h1 : kk K (p + 1) ≠ 76 → Q (.inl none) (nx w p)) (h2 : kk K (p + 1) = 76 → Q (.inr AE_) (fl2 (nx w p) 1 (kln K (p + 1)))) : zw E L kt_M195 [.ref (w_adr E.2.1 4 0)] w Q := by
  refine zt_X5_next_p0 (by omega) ?_
  simp only [zb_X5_next_p0, hC.2.1]
  rw [i_1, i_add, cN1]
  exact c_look (by omega) (hC.nxt h5 h6) (fun h => by simp only [wk0]; exact fun _ => h1 h) (fun h => by simp only [wk0]; exact h2 h)
theorem c_expect {x : Int32} {c v : Int} (hL : 140 ≤ L) (hC : CA E w K ns sm p) (hx : x = i_ c) (hc : wcd c v) (h0 : kk K p ≠ v → Q (.inr AE_) (fl2 w 2 (kln K p))) (h1 : kk K p = v → kk K (p + 1) ≠ 76 → Q (.inl none) (nx w p)) (h2 : kk K p = v → kk K (p + 1) = 76 → Q (.inr AE_) (fl2 (nx w p) 1 (kln K (p + 1)))) : zw E L kt_M176 [.ref (w_adr E.2.1 4 0), .int x] w Q := by
  refine zt_X5_expect_p0 (by omega) ?_
  simp only [zb_X5_expect_p0, zb_X5_expect_p12]
  refine c_is (by omega) hC hx hc ?_
  simp only [wk1, bI_0]
  intro _
  by_cases e : kk K p = v
  · rw [decide_eq_true e, if_pos (by decide)]
    unfold wcd at hc
    refine c_next (by omega) hC (by omega) (by omega) (fun h => ?_) (fun h => ?_)
    · simp only [wk0]
      exact fun _ => h1 e h
    · simp only [wk0]
      exact h2 e h
  · rw [decide_eq_false e, if_neg (by decide)]
    refine c_unfit (by omega) hC ?_
    simp only [wk0]
    exact h0 e
theorem c_endLine (hL : 140 ≤ L) (hC : CA E w K ns sm p) (h0 : kk K p ≠ 74 → Q (.inr AE_) (fl2 w 2 (kln K p))) (h1 : kk K p = 74 → kk K (p + 1) ≠ 76 → Q (.inl none) (nx w p)) (h2 : kk K p = 74 → kk K (p + 1) = 76 → Q (.inr AE_) (fl2 (nx w p) 1 (kln K (p + 1)))) : zw E L kt_M174 [.ref (w_adr E.2.1 4 0)] w Q := by
  have hp := hC.lt
  have hA := hC.1.1.1
  have hty := hC.ty
  have hk := hC.kkc
  obtain ⟨l2, l3, l4, l5, l6⟩ := hC.1.1.2.1
  have hpos := hC.2.1
  refine zt_X5_endLine_p0 (by omega) ?_
  simp only [zb_X5_endLine_p0, zb_X5_endLine_p22, hpos, l2, i_nat' (show p < 2147483648 by omega), hty]
  refine ⟨i_inb' (by omega) (by omega), ?_⟩
  by_cases h7 : (kA K p).1.1 = 7
  · rw [if_pos (by rw [h7])]
    refine c_next (by omega) hC (by omega) (by omega) (fun h => ?_) (fun h => ?_)
    · simp only [wk0]
      exact fun _ => h1 (by omega) h
    · simp only [wk0]
      exact h2 (by omega) h
  · rw [if_neg (eo_ne hA (by omega) (by omega) h7)]
    refine c_unfit (by omega) hC ?_
    simp only [wk0]
    exact h0 (by omega)
theorem c_name (hL : 140 ≤ L) (hC : CA E w K ns sm p) (h0 : kk K p ≠ 70 → Q (.inr AE_) (fl2 w 2 (kln K p))) (h1 : kk K p = 70 → kk K (p + 1) ≠ 76 → Q (.inl (some (.int (w_a w 1 0 3 p)))) (nx w p)) (h2 : kk K p = 70 → kk K (p + 1) = 76 → Q (.inr AE_) (fl2 (nx w p) 1 (kln K (p + 1)))) : zw E L kt_M193 [.ref (w_adr E.2.1 4 0)] w Q := by
  have hp := hC.lt
  have hA := hC.1.1.1
  have hty := hC.ty
  have hk := hC.kkc
  obtain ⟨l2, l3, l4, l5, l6⟩ := hC.1.1.2.1
  have hpos := hC.2.1
  refine zt_X5_name_p0 (by omega) ?_
  simp only [zb_X5_name_p0, zb_X5_name_p11]
  refine c_isName (by omega) hC ?_
  simp only [wk1, bI_0]
  intro _
  by_cases e : kk K p = 70
  · rw [decide_eq_true e, if_pos (by decide)]
    simp only [hpos, l3, i_nat' (show p < 2147483648 by omega)]
    refine ⟨i_inb' (by omega) (by omega), ?_⟩
    refine c_next (by omega) hC (by omega) (by omega) (fun h => ?_) (fun h => ?_)
    · simp only [wk0]
      exact fun _ => h1 e h
    · simp only [wk0]
      exact h2 e h
  · rw [decide_eq_false e, if_neg (by decide)]
    refine c_unfit (by omega) hC ?_
    simp only [wk0]
    exact h0 e
/-- types by their words: in MeetingHouse 1, 2, 3, in the twin 0, 1, 2 -/
def tyw (k : Int) : Int := if k = 12 then 0 else if k = 4 then 1 else 2
theorem c_type (hL : 140 ≤ L) (hC : CA E w K ns sm p) (h0 : bTy (kk K p) = false → Q (.inr AE_) (fl2 w 2 (kln K p))) (h1 : bTy (kk K p) = true → kk K (p + 1) ≠ 76 → Q (.inl (some (.int (i_ (tyw (kk K p) + 1))))) (nx w p)) (h2 : bTy (kk K p) = true → kk K (p + 1) = 76 → Q (.inr AE_) (fl2 (nx w p) 1 (kln K (p + 1)))) : zw E L kt_M212 [.ref (w_adr E.2.1 4 0)] w Q := by
  have hp := hC.lt
  have hA := hC.1.1.1
  have hty := hC.ty
  have hk := hC.kkc
  obtain ⟨l2, l3, l4, l5, l6⟩ := hC.1.1.2.1
  have hpos := hC.2.1
  refine zt_X5_type_p0 (by omega) ?_
  simp only [zb_X5_type_p0, zb_X5_type_p11, zb_X5_type_p48]
  refine c_isType (by omega) hC ?_
  simp only [wk1, bI_0]
  intro _
  cases e : bTy (kk K p) with
  | true =>
    rw [if_pos (by decide)]
    have e' := e
    unfold bTy at e'
    simp only [Bool.or_eq_true, decide_eq_true_eq] at e'
    have hv : w_a w 1 0 3 p = i_ (kk K p) := by
      rcases hk with hk | hk | hk
      · exact hk.2.1
      · omega
      · omega
    simp only [hpos, l3, i_nat' (show p < 2147483648 by omega), hv, show (12 : Int32) = i_ 12 from rfl, show (4 : Int32) = i_ 4 from rfl, i_eqk (show -1000 ≤ kk K p ∧ kk K p ≤ 1000 by omega) (show (-1000 : Int) ≤ 12 by decide) (by decide), i_eqk (show -1000 ≤ kk K p ∧ kk K p ≤ 1000 by omega) (show (-1000 : Int) ≤ 4 by decide) (by decide)]
    refine ⟨i_inb' (by omega) (by omega), ?_⟩
    refine c_next (by omega) hC (by omega) (by omega) (fun h => ?_) (fun h => ?_)
    · simp only [wk0]
      intro _
      have h1' := h1 e h
      unfold tyw at h1'
      by_cases a1 : kk K p = 12
      · rw [if_neg (not_not_intro a1)]
        rw [if_pos a1] at h1'
        exact h1'
      rw [if_pos a1]
      rw [if_neg a1] at h1'
      by_cases a2 : kk K p = 4
      · rw [if_neg (not_not_intro a2)]
        rw [if_pos a2] at h1'
        exact h1'
      rw [if_pos a2]
      rw [if_neg a2] at h1'
      exact h1'
    · simp only [wk0]
      exact h2 e h
  | false =>
    rw [if_neg (by decide)]
    refine c_unfit (by omega) hC ?_
    simp only [wk0]
    exact h0 e
/-- something is open from here on -/
theorem c_enter {o : Nat} (hL : 160 ≤ L) (hC : CA E w K ns sm p) (ho : w_i w 4 0 4 = i_ o) (ho2 : o ≤ 20) (h5 : kk K p ≠ 75) (h6 : kk K p ≠ 76) (h0 : o = 20 → Q (.inr AE_) (fl2 w 3 (kln K p))) (h1 : o < 20 → kk K (p + 1) ≠ 76 → Q (.inl none) (nx (ws_i w 4 0 4 (i_ (o + 1 : Nat))) p)) (h2 : o < 20 → kk K (p + 1) = 76 → Q (.inr AE_) (fl2 (nx (ws_i w 4 0 4 (i_ (o + 1 : Nat))) p) 1 (kln K (p + 1)))) : zw E L kt_M175 [.ref (w_adr E.2.1 4 0)] w Q := by
  refine zt_X5_enter_p0 (by omega) ?_
  simp only [zb_X5_enter_p0, zb_X5_enter_p21, ho]
  by_cases e : o = 20
  · rw [if_neg (not_not_intro (by rw [e]; rfl))]
    refine c_line (by omega) hC ?_
    simp only [wk1]
    intro _
    refine c_first (by omega) ?_
    simp only [wk0]
    exact h0 e
  · rw [if_pos (c := ¬ (i_ (o : Int) = 20)) (fun z => by rw [show (20 : Int32) = i_ 20 from rfl] at z; have := (i_eq (by omega) (by omega)).mp z; omega), i_1, i_add, cN1]
    have hC' : CA E (ws_i w 4 0 4 (i_ (o + 1 : Nat))) K ns sm p := hC.fx (FX_i rfl) (by rw [Rii, if_neg (by decide)])
    refine c_next (by omega) hC' h5 h6 (fun h => ?_) (fun h => ?_)
    · simp only [wk0]
      exact fun _ => h1 (by omega) h
    · simp only [wk0]
      exact h2 (by omega) h
theorem c_leave {x : Int32} {c v : Int} {o : Nat} (hL : 180 ≤ L) (hC : CA E w K ns sm p) (ho : w_i w 4 0 4 = i_ (o + 1 : Nat)) (hx : x = i_ c) (hc : wcd c v) (h0 : kk K p ≠ v → Q (.inr AE_) (fl2 w 2 (kln K p))) (h1 : kk K p = v → kk K (p + 1) ≠ 76 → Q (.inl none) (ws_i (nx w p) 4 0 4 (i_ o))) (h2 : kk K p = v → kk K (p + 1) = 76 → Q (.inr AE_) (fl2 (nx w p) 1 (kln K (p + 1)))) : zw E L kt_M188 [.ref (w_adr E.2.1 4 0), .int x] w Q := by
  refine zt_X5_leave_p0 (by omega) ?_
  simp only [zb_X5_leave_p0]
  refine c_expect (by omega) hC hx hc (fun h => ?_) (fun h h' => ?_) (fun h h' => ?_)
  · simp only [wk0]
    exact h0 h
  · simp only [wk0]
    intro _
    have : w_i (nx w p) 4 0 4 = i_ (o + 1 : Nat) := by
      unfold nx
      rw [Rii, if_neg (by decide)]
      exact ho
    rw [this, i_1, i_sub, show ((o + 1 : Nat) : Int) - 1 = (o : Int) by omega]
    exact h1 h h'
  · simp only [wk0]
    exact h2 h h'
/-- whether a line at a depth comes next; at a line's begin alone -/
def bAt (K : pK) (p d : Nat) : Bool := !decide (kk K p = 75) && decide ((kA K p).2.2 = 2 * (d : Int))
theorem c_more {d : Nat} (hL : 60 ≤ L) (hC : CA E w K ns sm p) (hd : d ≤ 1000) (hl : p = 0 ∨ kk K (p - 1) = 74) (h : Q (.inl (some (.int (bI (bAt K p d))))) w) : zw E L kt_M192 [.ref (w_adr E.2.1 4 0), .int (i_ d)] w Q := by
  have hp := hC.lt
  have hA := hC.1.1.1
  have hty := hC.ty
  have hk := hC.kkc
  obtain ⟨l2, l3, l4, l5, l6⟩ := hC.1.1.2.1
  have hpos := hC.2.1
  refine zt_X5_more_p0 (by omega) ?_
  simp only [zb_X5_more_p0, zb_X5_more_p38, zb_X5_more_p39, hpos, l2, l6, i_nat' (show p < 2147483648 by omega), hty]
  refine ⟨i_inb' (by omega) (by omega), ?_⟩
  unfold bAt at h
  by_cases h8 : (kA K p).1.1 = 8
  · rw [if_pos (by rw [h8])]
    rw [decide_eq_true (show kk K p = 75 by omega)] at h
    exact ⟨by decide, h⟩
  · rw [if_neg (eo_ne hA (by omega) (by omega) h8)]
    have h75 : ¬ kk K p = 75 := by omega
    rw [decide_eq_false h75] at h
    refine ⟨i_inb' (by omega) (by omega), ?_⟩
    rw [hC.row.2.2.2]
    have hb := hC.1.2.2.2.2.1 p hC.2.2 hl
    have hb2 := (hC.1.2.2.2.2.2 p hC.2.2).2
    have hb0 : 0 ≤ (kA K p).2.2 := by omega
    have hdr : -1 ≤ dep (kA K p).2.2 ∧ dep (kA K p).2.2 ≤ 1300 := by
      unfold dep
      rw [if_neg (by omega)]
      split <;> omega
    have hde : (i_ (dep (kA K p).2.2) = i_ d) ↔ (kA K p).2.2 = 2 * (d : Int) := by
      rw [i_eq (by omega) (by omega)]
      unfold dep
      rw [if_neg (by omega)]
      split <;> omega
    by_cases e : (kA K p).2.2 = 2 * (d : Int)
    · rw [if_neg (not_not_intro (hde.mpr e))]
      rw [decide_eq_true e] at h
      exact ⟨by decide, h⟩
    · rw [if_pos (fun z => e (hde.mp z))]
      rw [decide_eq_false e] at h
      exact ⟨by decide, h⟩
theorem c_stands2 {d : Nat} (hL : 120 ≤ L) (hC : CA E w K ns sm p) (hd : d ≤ 1000) (hl : p = 0 ∨ kk K (p - 1) = 74) (h0 : bAt K p d = false → Q (.inr AE_) (fl2 w 2 (kln K p))) (h1 : bAt K p d = true → Q (.inl none) (ws_i w 4 0 4 0)) : zw E L kt_M210 [.ref (w_adr E.2.1 4 0), .int (i_ d)] w Q := by
  refine zt_X5_stands_2_p0 (by omega) ?_
  simp only [zb_X5_stands_2_p0, zb_X5_stands_2_p12]
  refine c_more (by omega) hC hd hl ?_
  simp only [wk1, bI_0]
  intro _
  cases e : bAt K p d with
  | true =>
    rw [if_pos (by decide)]
    exact h1 e
  | false =>
    rw [if_neg (by decide)]
    refine c_unfit (by omega) hC ?_
    simp only [wk0]
    exact h0 e
theorem c_stands {d : Nat} {b : Bool} (hL : 200 ≤ L) (hC : CA E w K ns sm p) (hd : d ≤ 1000) (hl : p = 0 ∨ kk K (p - 1) = 74) (h0 : ∀ w', w' = w ∨ w' = ws_i w 4 0 4 0 → (bAt K p d && b) = false → Q (.inr AE_) (fl2 w' 2 (kln K p))) (h3 : (bAt K p d && b) = true → 20 < d → Q (.inr AE_) (fl2 (ws_i w 4 0 4 0) 3 (kln K p))) (h1 : (bAt K p d && b) = true → d ≤ 20 → Q (.inl none) (ws_i w 4 0 4 0)) : zw E L kt_M211 [.ref (w_adr E.2.1 4 0), .int (i_ d), .int (bI b)] w Q := by
  refine zt_X5_stands_p0 (by omega) ?_
  simp only [zb_X5_stands_p0, zb_X5_stands_p13, zb_X5_stands_p31]
  refine c_stands2 (by omega) hC hd hl (fun h => ?_) (fun h => ?_)
  · simp only [wk0]
    exact h0 w (.inl rfl) (by rw [h]; rfl)
  simp only [wk0]
  intro _
  have hC' : CA E (ws_i w 4 0 4 0) K ns sm p := hC.fx (FX_i rfl) (by rw [Rii, if_neg (by decide)])
  simp only [bI_0]
  cases b with
  | false =>
    rw [if_neg (by decide)]
    refine c_unfit (by omega) hC' ?_
    simp only [wk0]
    exact h0 _ (.inr rfl) (by simp)
  | true =>
    rw [if_pos (by decide)]
    rw [h] at h3 h1
    by_cases hd20 : d ≤ 20
    · rw [if_pos (by rw [show (20 : Int32) = i_ 20 from rfl]; exact (i_le (by omega) (by omega)).mpr (by omega))]
      exact h1 rfl hd20
    · rw [if_neg (fun z => hd20 (by rw [show (20 : Int32) = i_ 20 from rfl] at z; have := (i_le (by omega) (by omega)).mp z; omega))]
      refine c_line (by omega) hC' ?_
      simp only [wk1]
      intro _
      refine c_first (by omega) ?_
      simp only [wk0]
      exact h3 rfl (by omega)
end PC2
