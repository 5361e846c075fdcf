/-! ===== PARSERS, part 3: the twin's small steps ===== -/
/-- what the twin's parser may change -/
def pT3 : List Nat := [25, 26, 27, 28, 29, 30, 31, 32, 33, 34, 35, 36, 37, 38, 41, 42, 43, 96]
def TX (t t' : wS) : Prop := frm (pk 12 pT3) t t'
/-- a step to the next token; a fault that is told -/
def nx3 (t : wS) (p : Nat) : wS := ws_i t 12 0 35 (i_ (p + 1 : Nat))
def fl3 (t : wS) (k : Int) (ln : Nat) : wS := ws_i (ws_i t 12 0 36 (i_ k)) 12 0 37 (i_ ln)
/-- a new node -/
def nd3 (t : wS) (N : Nat) (k l : Int32) : wS := ws_i (ws_a (ws_a (ws_a (ws_a (ws_a (ws_a (ws_a (ws_a (ws_a (ws_a t 12 0 26 N k) 12 0 27 N l) 12 0 28 N (-1)) 12 0 29 N (-1)) 12 0 30 N (-1)) 12 0 31 N (-1)) 12 0 32 N (-1)) 12 0 33 N (-1)) 12 0 34 N 0) 12 0 96 N 0) 12 0 25 (i_ (N + 1 : Nat))
theorem TX_nx3 {t : wS} {p : Nat} : TX t (nx3 t p) := frm_i rfl
theorem TX_fl3 {t : wS} {k : Int} {ln : Nat} : TX t (fl3 t k ln) := (frm_i rfl).tr (frm_i rfl)
theorem TX_nd3 {t : wS} {N : Nat} {k l : Int32} : TX t (nd3 t N k l) := ((((((((((frm_a rfl).tr (frm_a rfl)).tr (frm_a rfl)).tr (frm_a rfl)).tr (frm_a rfl)).tr (frm_a rfl)).tr (frm_a rfl)).tr (frm_a rfl)).tr (frm_a rfl)).tr (frm_a rfl)).tr (frm_i rfl)
theorem fl3_k {w : wS} {k : Int} {ln : Nat} : w_i (fl3 w k ln) 12 0 36 = i_ k := by
  unfold fl3
  rw [Rii, if_neg (by decide), Rii, if_pos ⟨rfl, rfl, rfl⟩]
theorem fl3_l {w : wS} {k : Int} {ln : Nat} : w_i (fl3 w k ln) 12 0 37 = i_ ln := by
  unfold fl3
  rw [Rii, if_pos ⟨rfl, rfl, rfl⟩]
section PT3
variable {E : zE} {L : Nat} {t : wS} {Q : kx_Rs → wS → Prop} {K : pK} {ms SS : List (List Int)} {sm p q N : Nat}
theorem KT3.tx {t' : wS} (h : KT3 t K ms SS) (hf : TX t t') : KT3 t' K ms SS := by
  obtain ⟨h1, h2, h3, h4⟩ := h
  refine ⟨?_, ?_, ?_, fun k x hx => (h4 k x hx).up (hf.a rfl) (hf.a rfl) (hf.a rfl) (hf.a rfl) (List.prefix_refl _) (List.prefix_refl _)⟩
  · simp only [hf.n]
    exact h1
  · simp only [hf.n]
    exact h2
  · rw [hf.i rfl]
    exact h3
theorem TA.tx {t' : wS} (h : TA t K ms SS p) (hf : TX t t') (hp : w_i t' 12 0 35 = w_i t 12 0 35) : TA t' K ms SS p := ⟨⟨h.1.1.tx hf, h.1.2⟩, hp.trans h.2.1, h.2.2⟩
theorem TA.nxt (h : TA t K ms SS p) (h1 : kk K p ≠ 75) (h2 : kk K p ≠ 76) : TA (nx3 t p) K ms SS (p + 1) := ⟨⟨h.1.1.tx TX_nx3, h.1.2⟩, by unfold nx3; rw [Rii, if_pos ⟨rfl, rfl, rfl⟩], h.1.2.nl h.2.2 h1 h2⟩
theorem t_look (hL : 19 ≤ L) (hT : TA t K ms SS p) (h : Q (.inl (some (.int (i_ (kk K p))))) t) : zw E L kt_M462 [.ref (w_adr E.2.1 12 0)] t Q := by
  have hp := hT.lt
  have hrow := hT.row
  obtain ⟨l7, l8, l9, l10⟩ := hT.1.1.1
  have hpos := hT.2.1
  refine zt_X13_look_p0 hL ?_
  simp only [zb_X13_look_p0, hpos, l7, i_nat' (show p < 2147483648 by omega)]
  refine ⟨i_inb' (by omega) (by omega), ?_⟩
  rw [hrow.1]
  exact h
theorem t_stop {no : Int} (hL : 19 ≤ L) (hT : TA t K ms SS p) (hk : 0 ≤ kk K p ∧ kk K p ≤ 1000) (h : Q (.inl (some (va_rf (some (w_adr E.2.1 13 0))))) (fl3 t (if kk K p = 76 then 1 else no) (kln K p))) : zw E L kt_M545 [.ref (w_adr E.2.1 12 0), .int (i_ no)] t Q := by
  have hp := hT.lt
  have hrow := hT.row
  obtain ⟨l7, l8, l9, l10⟩ := hT.1.1.1
  have hpos := hT.2.1
  refine zt_X13_stop_p0 hL ?_
  simp only [zb_X13_stop_p0, zb_X13_stop_p19, zb_X13_stop_p30, hpos, l7, l9, i_nat' (show p < 2147483648 by omega), hrow.1, hrow.2.2.1]
  refine ⟨i_inb' (by omega) (by omega), ?_⟩
  have e76 : (i_ (kd3 (kA K p).1) = 76) = (kk K p = 76) := i_eqk (show -1000 ≤ kk K p ∧ kk K p ≤ 1000 by omega) (show (-1000 : Int) ≤ 76 by decide) (by decide)
  simp only [e76]
  by_cases e : kk K p = 76
  · rw [if_neg (not_not_intro e), if_neg (by decide)]
    rw [if_pos e] at h
    exact ⟨i_inb' (by omega) (by omega), h⟩
  · rw [if_pos e, if_pos trivial]
    rw [if_neg e] at h
    exact ⟨i_inb' (by omega) (by omega), h⟩
/-- behind a stop: it is thrown -/
theorem t_throw {no : Int} {X : String → wS → Prop} {e : String} (hL : 19 ≤ L) (hT : TA t K ms SS p) (hk : 0 ≤ kk K p ∧ kk K p ≤ 1000) (h : Q (.inr HT_) (fl3 t (if kk K p = 76 then 1 else no) (kln K p))) : zw E L kt_M545 [.ref (w_adr E.2.1 12 0), .int (i_ no)] t (wkr (fun v2 w1 => wle t w1 → (v2 = some (w_adr E.2.1 13 0) ∧ Q (.inr HT_) w1)) X) := by
  refine t_stop hL hT hk ?_
  simp only [wkr, va_rf]
  exact fun _ => ⟨trivial, h⟩
end PT3
/-- kinds are in range; a line's tokens have its number -/
def KRG (K : pK) : Prop := (∀ k, k < K.length → 0 ≤ kk K k ∧ kk K k ≤ 76 ∧ (kk K k = 74 → (kA K k).2.2 = -1)) ∧ ∀ k, k + 1 < K.length → kk K k ≠ 74 → kln K (k + 1) = kln K k
theorem TA.kr {t : wS} {K : pK} {ms SS : List (List Int)} {p : Nat} (h : TA t K ms SS p) (hK : KRG K) : 0 ≤ kk K p ∧ kk K p ≤ 1000 := by
  have := hK.1 p h.2.2
  exact ⟨this.1, by have := this.2.1; omega⟩
section PT4
variable {E : zE} {L : Nat} {t : wS} {Q : kx_Rs → wS → Prop} {K : pK} {ms SS : List (List Int)} {sm p q N : Nat}
theorem t_may {x : Int32} {v : Int} (hL : 19 ≤ L) (hT : TA t K ms SS p) (hK : KRG K) (hx : x = i_ v) (hv : 0 ≤ v ∧ v ≤ 1000) (h1 : kk K p = v → Q (.inl (some (.int 1))) (nx3 t p)) (h0 : kk K p ≠ v → Q (.inl (some (.int 0))) t) : zw E L kt_M466 [.ref (w_adr E.2.1 12 0), .int x] t Q := by
  have hp := hT.lt
  have hrow := hT.row
  obtain ⟨l7, l8, l9, l10⟩ := hT.1.1.1
  have hpos := hT.2.1
  have hk := hT.kr hK
  subst hx
  refine zt_X13_may_p0 hL ?_
  simp only [zb_X13_may_p0, hpos, l7, i_nat' (show p < 2147483648 by omega), hrow.1]
  refine ⟨i_inb' (by omega) (by omega), ?_⟩
  have ev : (i_ (kd3 (kA K p).1) = i_ v) = (kk K p = v) := i_eqk (show -1000 ≤ kk K p ∧ kk K p ≤ 1000 by omega) (show (-1000 : Int) ≤ v by omega) (by omega)
  simp only [ev]
  by_cases e : kk K p = v
  · rw [if_pos e, i_1, i_add, cN1]
    exact h1 e
  · rw [if_neg e]
    exact h0 e
theorem t_want {x : Int32} {v : Int} (hL : 60 ≤ L) (hT : TA t K ms SS p) (hK : KRG K) (hx : x = i_ v) (hv : 0 ≤ v ∧ v ≤ 1000) (h1 : kk K p = v → Q (.inl none) (nx3 t p)) (h0 : kk K p ≠ v → Q (.inr HT_) (fl3 t (if kk K p = 76 then 1 else 2) (kln K p))) : zw E L kt_M600 [.ref (w_adr E.2.1 12 0), .int x] t Q := by
  have hp := hT.lt
  have hrow := hT.row
  obtain ⟨l7, l8, l9, l10⟩ := hT.1.1.1
  have hpos := hT.2.1
  have hk := hT.kr hK
  subst hx
  refine zt_X13_want_p0 (by omega) ?_
  simp only [zb_X13_want_p0, hpos, l7, i_nat' (show p < 2147483648 by omega), hrow.1]
  refine ⟨i_inb' (by omega) (by omega), ?_⟩
  have ev : (i_ (kd3 (kA K p).1) = i_ v) = (kk K p = v) := i_eqk (show -1000 ≤ kk K p ∧ kk K p ≤ 1000 by omega) (show (-1000 : Int) ≤ v by omega) (by omega)
  simp only [ev]
  by_cases e : kk K p = v
  · rw [if_pos e, i_1, i_add, cN1]
    exact h1 e
  · rw [if_neg e]
    exact t_throw (no := 2) (e := "") (by omega) hT hk (h0 e)
theorem t_wantName (hL : 60 ≤ L) (hT : TA t K ms SS p) (hK : KRG K) (h1 : kk K p = 70 → Q (.inl (some (.int (w_a t 12 0 8 p)))) (nx3 t p)) (h0 : kk K p ≠ 70 → Q (.inr HT_) (fl3 t (if kk K p = 76 then 1 else 2) (kln K p))) : zw E L kt_M601 [.ref (w_adr E.2.1 12 0)] t Q := by
  have hp := hT.lt
  have hrow := hT.row
  obtain ⟨l7, l8, l9, l10⟩ := hT.1.1.1
  have hpos := hT.2.1
  have hk := hT.kr hK
  refine zt_X13_wantName_p0 (by omega) ?_
  simp only [zb_X13_wantName_p0, hpos, l7, l8, i_nat' (show p < 2147483648 by omega), hrow.1]
  refine ⟨i_inb' (by omega) (by omega), ?_⟩
  have ev : (i_ (kd3 (kA K p).1) = 70) = (kk K p = 70) := i_eqk (show -1000 ≤ kk K p ∧ kk K p ≤ 1000 by omega) (show (-1000 : Int) ≤ 70 by decide) (by decide)
  simp only [ev]
  by_cases e : kk K p = 70
  · rw [if_pos e, i_1, i_add, i_sub, show (p : Int) + 1 - 1 = (p : Int) by omega, cN1, i_nat' (show p < 2147483648 by omega)]
    exact ⟨i_inb' (by omega) (by omega), h1 e⟩
  · rw [if_neg e]
    exact t_throw (no := 2) (e := "") (by omega) hT hk (h0 e)
theorem t_endOfLine (hL : 100 ≤ L) (hT : TA t K ms SS p) (hK : KRG K) (h1 : kk K p = 74 → Q (.inl none) (nx3 t p)) (h0 : kk K p ≠ 74 → Q (.inr HT_) (fl3 t (if kk K p = 76 then 1 else 2) (kln K p))) : zw E L kt_M400 [.ref (w_adr E.2.1 12 0)] t Q := by
  refine zt_X13_endOfLine_p0 (by omega) ?_
  simp only [zb_X13_endOfLine_p0]
  refine t_want (v := 74) (by omega) hT hK rfl (by omega) (fun e => ?_) (fun e => ?_)
  · simp only [wk0]
    exact fun _ => h1 e
  · simp only [wk0]
    exact h0 e
theorem t_node {x l : Int32} (hL : 19 ≤ L) (hT : KT3 t K ms SS) (hN : w_i t 12 0 25 = i_ N) (hN2 : N < 14000) (h : Q (.inl (some (.int (i_ N)))) (nd3 t N x l)) : zw E L kt_M494 [.ref (w_adr E.2.1 12 0), .int x, .int l] t Q := by
  obtain ⟨l26, l27, l28, l29, l30, l31, l32, l33, l34, l41, l42, l96⟩ := hT.2.1
  refine zt_X13_node_p0 hL ?_
  simp only [zb_X13_node_p0, hN, l26, l27, l28, l29, l30, l31, l32, l33, l34, l96, i_inb' (show N < 2147483648 by omega) hN2, i_nat' (show N < 2147483648 by omega), true_and]
  rw [i_1, i_add, i_sub, show (N : Int) + 1 - 1 = (N : Int) by omega, cN1]
  exact h
theorem t_ahead (hL : 19 ≤ L) (hT : TA t K ms SS p) (h5 : kk K p ≠ 75) (h6 : kk K p ≠ 76) (h : Q (.inl (some (.int (i_ (kk K (p + 1)))))) t) : zw E L kt_M349 [.ref (w_adr E.2.1 12 0), .int 1] t Q := by
  have hp := hT.lt
  have hrow := hT.row
  obtain ⟨l7, l8, l9, l10⟩ := hT.1.1.1
  have hpos := hT.2.1
  have hp1 := hT.1.2.nl hT.2.2 h5 h6
  obtain ⟨m, e6, hm, hm2⟩ := hT.1.1.2.2.1
  have hp2 : p + 1 < 2600 := by have := hT.1.2.1.2; omega
  have hrow1 := hT.1.1.2.2.2 (p + 1) _ (kA_at hp1)
  refine zt_X13_ahead_p0 (by omega) ?_
  simp only [zb_X13_ahead_p0, zb_X13_ahead_p29, hpos, e6, l7]
  rw [i_1, i_add, cN1, if_neg (fun z => by have := (i_le (by omega) (by omega)).mp z; omega), i_nat' (show p + 1 < 2147483648 by omega), hrow1.1]
  exact ⟨i_inb' (by omega) (by omega), h⟩
theorem t_opens {o : Nat} (hL : 60 ≤ L) (hT : TA t K ms SS p) (hK : KRG K) (ho : w_i t 12 0 38 = i_ o) (ho2 : o ≤ 20) (h1 : o < 20 → Q (.inl none) (nx3 (ws_i t 12 0 38 (i_ (o + 1 : Nat))) p)) (h0 : o = 20 → Q (.inr HT_) (fl3 t (if kk K p = 76 then 1 else 3) (kln K p))) : zw E L kt_M497 [.ref (w_adr E.2.1 12 0)] t Q := by
  have hk := hT.kr hK
  refine zt_X13_opens_p0 (by omega) ?_
  simp only [zb_X13_opens_p0, ho]
  by_cases e : o = 20
  · rw [if_neg (not_not_intro (by rw [e]; rfl))]
    exact t_throw (no := 3) (e := "") (by omega) hT hk (h0 e)
  · rw [if_pos (c := ¬ (i_ (o : Int) = 20)) (fun z => by rw [show (20 : Int32) = i_ 20 from rfl] at z; have := (i_eq (by omega) (by omega)).mp z; omega), hT.2.1, i_1, i_add, i_add, cN1, cN1]
    exact h1 (by omega)
theorem t_isType {v : Int} (hL : 19 ≤ L) (hv : -1000 ≤ v ∧ v ≤ 1000) (h : Q (.inl (some (.int (bI (bTy v))))) t) : zw E L kt_M448 [.int (i_ v)] t Q := by
  refine zt_X13_isType_p0 hL ?_
  simp only [zb_X13_isType_p0, zb_X13_isType_p16, zb_X13_isType_p21, show (12 : Int32) = i_ 12 from rfl, show (4 : Int32) = i_ 4 from rfl, show (3 : Int32) = i_ 3 from rfl, i_eqk hv (show (-1000 : Int) ≤ 12 by decide) (by decide), i_eqk hv (show (-1000 : Int) ≤ 4 by decide) (by decide), i_eqk hv (show (-1000 : Int) ≤ 3 by decide) (by decide)]
  have tt : bTy v = true → Q (.inl (some (.int 1))) t := fun e => by rw [e] at h; exact h
  have ff : bTy v = false → Q (.inl (some (.int 0))) t := fun e => by rw [e] at h; exact h
  unfold bTy at tt ff
  repeat' split
  all_goals first
    | (refine ⟨by decide, tt ?_⟩; simp only [Bool.or_eq_true, decide_eq_true_eq, Bool.false_eq_true, false_or, or_false]; omega)
    | (refine ⟨by decide, ff ?_⟩; simp only [Bool.or_eq_false_iff, decide_eq_false_iff_not, eq_self, true_and, and_true]; omega)
theorem t_declares {v : Int} (hL : 60 ≤ L) (hv : -1000 ≤ v ∧ v ≤ 1000) (h : Q (.inl (some (.int (bI (bDe v))))) t) : zw E L kt_M386 [.int (i_ v)] t Q := by
  refine zt_X13_declares_p0 (by omega) ?_
  simp only [zb_X13_declares_p0, zb_X13_declares_p43, zb_X13_declares_p48, (show (i_ v = (42 : Int32)) = (v = 42) from i_eqk hv (show (-1000 : Int) ≤ 42 by decide) (by decide)), (show (i_ v = (6 : Int32)) = (v = 6) from i_eqk hv (show (-1000 : Int) ≤ 6 by decide) (by decide)), (show (i_ v = (30 : Int32)) = (v = 30) from i_eqk hv (show (-1000 : Int) ≤ 30 by decide) (by decide)), (show (i_ v = (33 : Int32)) = (v = 33) from i_eqk hv (show (-1000 : Int) ≤ 33 by decide) (by decide)), (show (i_ v = (24 : Int32)) = (v = 24) from i_eqk hv (show (-1000 : Int) ≤ 24 by decide) (by decide)), (show (i_ v = (23 : Int32)) = (v = 23) from i_eqk hv (show (-1000 : Int) ≤ 23 by decide) (by decide))]
  refine t_isType (by omega) hv ?_
  simp only [wk1, bI_0]
  intro _
  have tt : bDe v = true → Q (.inl (some (.int 1))) t := fun e => by rw [e] at h; exact h
  have ff : bDe v = false → Q (.inl (some (.int 0))) t := fun e => by rw [e] at h; exact h
  unfold bDe at tt ff
  cases hb : bTy v with
  | true =>
    rw [if_pos (by decide)]
    exact ⟨by decide, tt (by rw [hb]; rfl)⟩
  | false =>
    rw [hb] at tt ff
    rw [if_neg (by decide)]
    repeat' split
    all_goals first
      | (refine ⟨by decide, tt ?_⟩; simp only [Bool.or_eq_true, decide_eq_true_eq, Bool.false_eq_true, false_or, or_false]; omega)
      | (refine ⟨by decide, ff ?_⟩; simp only [Bool.or_eq_false_iff, decide_eq_false_iff_not, eq_self, true_and, and_true]; omega)
theorem t_acts {v : Int} (hL : 60 ≤ L) (hv : -1000 ≤ v ∧ v ≤ 1000) (h : Q (.inl (some (.int (bI (bAc v))))) t) : zw E L kt_M347 [.int (i_ v)] t Q := by
  refine zt_X13_acts_p0 (by omega) ?_
  simp only [zb_X13_acts_p0, zb_X13_acts_p58, zb_X13_acts_p63, (show (i_ v = (28 : Int32)) = (v = 28) from i_eqk hv (show (-1000 : Int) ≤ 28 by decide) (by decide)), (show (i_ v = (29 : Int32)) = (v = 29) from i_eqk hv (show (-1000 : Int) ≤ 29 by decide) (by decide)), (show (i_ v = (70 : Int32)) = (v = 70) from i_eqk hv (show (-1000 : Int) ≤ 70 by decide) (by decide)), (show (i_ v = (26 : Int32)) = (v = 26) from i_eqk hv (show (-1000 : Int) ≤ 26 by decide) (by decide)), (show (i_ v = (20 : Int32)) = (v = 20) from i_eqk hv (show (-1000 : Int) ≤ 20 by decide) (by decide)), (show (i_ v = (11 : Int32)) = (v = 11) from i_eqk hv (show (-1000 : Int) ≤ 11 by decide) (by decide)), (show (i_ v = (5 : Int32)) = (v = 5) from i_eqk hv (show (-1000 : Int) ≤ 5 by decide) (by decide)), (show (i_ v = (35 : Int32)) = (v = 35) from i_eqk hv (show (-1000 : Int) ≤ 35 by decide) (by decide)), (show (i_ v = (22 : Int32)) = (v = 22) from i_eqk hv (show (-1000 : Int) ≤ 22 by decide) (by decide)), (show (i_ v = (1 : Int32)) = (v = 1) from i_eqk hv (show (-1000 : Int) ≤ 1 by decide) (by decide))]
  have tt : bAc v = true → Q (.inl (some (.int 1))) t := fun e => by rw [e] at h; exact h
  have ff : bAc v = false → Q (.inl (some (.int 0))) t := fun e => by rw [e] at h; exact h
  unfold bAc at tt ff
  repeat' split
  all_goals first
    | (refine ⟨by decide, tt ?_⟩; simp only [Bool.or_eq_true, decide_eq_true_eq, Bool.false_eq_true, false_or, or_false]; omega)
    | (refine ⟨by decide, ff ?_⟩; simp only [Bool.or_eq_false_iff, decide_eq_false_iff_not, eq_self, true_and, and_true]; omega)
theorem t_operandB {v : Int} (hL : 60 ≤ L) (hv : -1000 ≤ v ∧ v ≤ 1000) (h : Q (.inl (some (.int (bI (bOd v))))) t) : zw E L kt_M499 [.int (i_ v)] t Q := by
  refine zt_X13_operand_p0 (by omega) ?_
  simp only [zb_X13_operand_p0, zb_X13_operand_p67, zb_X13_operand_p72, (show (i_ v = (71 : Int32)) = (v = 71) from i_eqk hv (show (-1000 : Int) ≤ 71 by decide) (by decide)), (show (i_ v = (72 : Int32)) = (v = 72) from i_eqk hv (show (-1000 : Int) ≤ 72 by decide) (by decide)), (show (i_ v = (73 : Int32)) = (v = 73) from i_eqk hv (show (-1000 : Int) ≤ 73 by decide) (by decide)), (show (i_ v = (32 : Int32)) = (v = 32) from i_eqk hv (show (-1000 : Int) ≤ 32 by decide) (by decide)), (show (i_ v = (8 : Int32)) = (v = 8) from i_eqk hv (show (-1000 : Int) ≤ 8 by decide) (by decide)), (show (i_ v = (16 : Int32)) = (v = 16) from i_eqk hv (show (-1000 : Int) ≤ 16 by decide) (by decide)), (show (i_ v = (15 : Int32)) = (v = 15) from i_eqk hv (show (-1000 : Int) ≤ 15 by decide) (by decide)), (show (i_ v = (40 : Int32)) = (v = 40) from i_eqk hv (show (-1000 : Int) ≤ 40 by decide) (by decide)), (show (i_ v = (42 : Int32)) = (v = 42) from i_eqk hv (show (-1000 : Int) ≤ 42 by decide) (by decide)), (show (i_ v = (70 : Int32)) = (v = 70) from i_eqk hv (show (-1000 : Int) ≤ 70 by decide) (by decide))]
  have tt : bOd v = true → Q (.inl (some (.int 1))) t := fun e => by rw [e] at h; exact h
  have ff : bOd v = false → Q (.inl (some (.int 0))) t := fun e => by rw [e] at h; exact h
  unfold bOd at tt ff
  by_cases a71 : v = 71
  · rw [if_pos a71]
    exact ⟨by decide, tt (by simp only [Bool.or_eq_true, decide_eq_true_eq]; omega)⟩
  rw [if_neg a71]
  by_cases a72 : v = 72
  · rw [if_pos a72]
    exact ⟨by decide, tt (by simp only [Bool.or_eq_true, decide_eq_true_eq]; omega)⟩
  rw [if_neg a72]
  by_cases a73 : v = 73
  · rw [if_pos a73]
    exact ⟨by decide, tt (by simp only [Bool.or_eq_true, decide_eq_true_eq]; omega)⟩
  rw [if_neg a73]
  by_cases a32 : v = 32
  · rw [if_pos a32]
    exact ⟨by decide, tt (by simp only [Bool.or_eq_true, decide_eq_true_eq]; omega)⟩
  rw [if_neg a32]
  by_cases a8 : v = 8
  · rw [if_pos a8]
    exact ⟨by decide, tt (by simp only [Bool.or_eq_true, decide_eq_true_eq]; omega)⟩
  rw [if_neg a8]
  by_cases a16 : v = 16
  · rw [if_pos a16]
    exact ⟨by decide, tt (by simp only [Bool.or_eq_true, decide_eq_true_eq]; omega)⟩
  rw [if_neg a16]
  by_cases a15 : v = 15
  · rw [if_pos a15]
    exact ⟨by decide, tt (by simp only [Bool.or_eq_true, decide_eq_true_eq]; omega)⟩
  rw [if_neg a15]
  refine t_isType (by omega) hv ?_
  simp only [wk1, bI_0]
  intro _
  cases hb : bTy v with
  | true =>
    rw [if_pos (by decide)]
    exact ⟨by decide, tt (by rw [hb]; simp)⟩
  | false =>
    rw [hb] at tt ff
    rw [if_neg (by decide)]
    repeat' split
    all_goals first
      | (refine ⟨by decide, tt ?_⟩; simp only [Bool.or_eq_true, decide_eq_true_eq, Bool.false_eq_true, false_or, or_false]; omega)
      | (refine ⟨by decide, ff ?_⟩; simp only [Bool.or_eq_false_iff, decide_eq_false_iff_not, eq_self, true_and, and_true]; omega)
theorem t_expressionB {v : Int} (hL : 100 ≤ L) (hv : -1000 ≤ v ∧ v ≤ 1000) (h : Q (.inl (some (.int (bI (bEx v))))) t) : zw E L kt_M407 [.int (i_ v)] t Q := by
  refine zt_X13_expression_p0 (by omega) ?_
  simp only [zb_X13_expression_p0, zb_X13_expression_p37, zb_X13_expression_p42, (show (i_ v = (58 : Int32)) = (v = 58) from i_eqk hv (show (-1000 : Int) ≤ 58 by decide) (by decide)), (show (i_ v = (67 : Int32)) = (v = 67) from i_eqk hv (show (-1000 : Int) ≤ 67 by decide) (by decide)), (show (i_ v = (17 : Int32)) = (v = 17) from i_eqk hv (show (-1000 : Int) ≤ 17 by decide) (by decide)), (show (i_ v = (14 : Int32)) = (v = 14) from i_eqk hv (show (-1000 : Int) ≤ 14 by decide) (by decide)), (show (i_ v = (27 : Int32)) = (v = 27) from i_eqk hv (show (-1000 : Int) ≤ 27 by decide) (by decide))]
  refine t_operandB (by omega) hv ?_
  simp only [wk1, bI_0]
  intro _
  have tt : bEx v = true → Q (.inl (some (.int 1))) t := fun e => by rw [e] at h; exact h
  have ff : bEx v = false → Q (.inl (some (.int 0))) t := fun e => by rw [e] at h; exact h
  unfold bEx bUn at tt ff
  cases hb : bOd v with
  | true =>
    rw [if_pos (by decide)]
    exact ⟨by decide, tt (by rw [hb]; rfl)⟩
  | false =>
    rw [hb] at tt ff
    rw [if_neg (by decide)]
    repeat' split
    all_goals first
      | (refine ⟨by decide, tt ?_⟩; simp only [Bool.or_eq_true, decide_eq_true_eq, Bool.false_eq_true, false_or, or_false]; omega)
      | (refine ⟨by decide, ff ?_⟩; simp only [Bool.or_eq_false_iff, decide_eq_false_iff_not, eq_self, true_and, and_true]; omega)
theorem t_isOperator {v : Int} (hL : 19 ≤ L) (hv : -1000 ≤ v ∧ v ≤ 1000) (h : Q (.inl (some (.int (bI (bOp v))))) t) : zw E L kt_M445 [.int (i_ v)] t Q := by
  refine zt_X13_isOperator_p0 (by omega) ?_
  simp only [zb_X13_isOperator_p0, zb_X13_isOperator_p12, zb_X13_isOperator_p34, zb_X13_isOperator_p39, show (51 : Int32) = i_ 51 from rfl, i_ltk hv (show (-1000 : Int) ≤ 51 by decide) (by decide), show (66 : Int32) = i_ 66 from rfl, i_lek hv (show (-1000 : Int) ≤ 66 by decide) (by decide), (show (i_ v = (21 : Int32)) = (v = 21) from i_eqk hv (show (-1000 : Int) ≤ 21 by decide) (by decide)), (show (i_ v = (14 : Int32)) = (v = 14) from i_eqk hv (show (-1000 : Int) ≤ 14 by decide) (by decide)), (show (i_ v = (31 : Int32)) = (v = 31) from i_eqk hv (show (-1000 : Int) ≤ 31 by decide) (by decide)), show (i_ v = (0 : Int32)) = (v = 0) from i_eqk hv (show (-1000 : Int) ≤ 0 by decide) (by decide)]
  have tt : bOp v = true → Q (.inl (some (.int 1))) t := fun e => by rw [e] at h; exact h
  have ff : bOp v = false → Q (.inl (some (.int 0))) t := fun e => by rw [e] at h; exact h
  unfold bOp at tt ff
  repeat' split
  all_goals first
    | (refine ⟨by decide, tt ?_⟩; simp only [Bool.or_eq_true, Bool.and_eq_true, decide_eq_true_eq]; omega)
    | (refine ⟨by decide, ff ?_⟩; simp only [Bool.or_eq_false_iff, Bool.and_eq_false_iff, decide_eq_false_iff_not]; omega)
theorem t_isAt {d : Nat} (hL : 60 ≤ L) (hT : TA t K ms SS p) (hK : KRG K) (hd : d ≤ 1000) (h : Q (.inl (some (.int (bI (bAt K p d))))) t) : zw E L kt_M438 [.ref (w_adr E.2.1 12 0), .int (i_ d)] t Q := by
  have hp := hT.lt
  have hrow := hT.row
  obtain ⟨l7, l8, l9, l10⟩ := hT.1.1.1
  have hpos := hT.2.1
  have hk := hT.kr hK
  have hb2 := (hT.1.2.2.2.2.2 p hT.2.2).2
  refine zt_X13_isAt_p0 (by omega) ?_
  simp only [zb_X13_isAt_p0, zb_X13_isAt_p28, zb_X13_isAt_p29]
  refine t_look (by omega) hT ?_
  simp only [wk1]
  intro _
  unfold bAt at h
  simp only [show (i_ (kk K p) = (75 : Int32)) = (kk K p = 75) from i_eqk (show -1000 ≤ kk K p ∧ kk K p ≤ 1000 by omega) (show (-1000 : Int) ≤ 75 by decide) (by decide)]
  by_cases e : kk K p = 75
  · rw [if_pos e]
    rw [decide_eq_true e] at h
    exact ⟨by decide, h⟩
  rw [if_neg e]
  rw [decide_eq_false e] at h
  rw [hpos, l10, i_nat' (show p < 2147483648 by omega), hrow.2.2.2, show (2 : Int32) = i_ 2 from rfl, i_mul]
  refine ⟨i_inb' (by omega) (by omega), ?_⟩
  by_cases e2 : (kA K p).2.2 = 2 * (d : Int)
  · rw [if_neg (not_not_intro (by rw [e2]))]
    rw [decide_eq_true e2] at h
    exact ⟨by decide, h⟩
  · rw [if_pos (c := ¬ (i_ (kA K p).2.2 = i_ (2 * (d : Int)))) (fun z => e2 ((i_eq (by omega) (by omega)).mp z))]
    rw [decide_eq_false e2] at h
    exact ⟨by decide, h⟩
/-- how lines begin -/
def bBe (how k : Int) : Bool := if how = 0 then bDe k || bAc k else if how = 1 then bDe k || decide (k = 34) else if how = 2 then bEx k else if how = 3 then bEx k || decide (k = 7) else if how = 4 then bEx k || decide (k = 28) else if how = 5 then decide (k = 70) else if how = 6 then decide (k = 46) else if how = 7 then decide (k = 5) else if how = 8 then decide (k = 34) else decide (k = 25)
theorem bI_tt {b : Bool} (e : b = true) (h : Q (.inl (some (.int (bI b)))) t) : ((1 : Int32) = 0 ∨ True) ∧ Q (.inl (some (.int 1))) t := by rw [e] at h; exact ⟨by decide, h⟩
theorem bI_ff {b : Bool} (e : b = false) (h : Q (.inl (some (.int (bI b)))) t) : (True ∨ (0 : Int32) = 1) ∧ Q (.inl (some (.int 0))) t := by rw [e] at h; exact ⟨by decide, h⟩
theorem bI_if {k v : Int} {b : Bool} (e : b = decide (k = v)) (h : Q (.inl (some (.int (bI b)))) t) : if ¬ k = v then (True ∨ (0 : Int32) = 1) ∧ Q (.inl (some (.int 0))) t else ((1 : Int32) = 0 ∨ True) ∧ Q (.inl (some (.int 1))) t := by
  by_cases hk : k = v
  · rw [if_neg (not_not_intro hk)]
    exact bI_tt (by rw [e, decide_eq_true hk]) h
  · rw [if_pos hk]
    exact bI_ff (by rw [e, decide_eq_false hk]) h
theorem t_begins {how v : Int} (hL : 140 ≤ L) (hh : 0 ≤ how ∧ how ≤ 9) (hv : -1000 ≤ v ∧ v ≤ 1000) (h : Q (.inl (some (.int (bI (bBe how v))))) t) : zw E L kt_M359 [.int (i_ how), .int (i_ v)] t Q := by
  refine zt_X13_begins_p0 (by omega) ?_
  have hc : how = 0 ∨ how = 1 ∨ how = 2 ∨ how = 3 ∨ how = 4 ∨ how = 5 ∨ how = 6 ∨ how = 7 ∨ how = 8 ∨ how = 9 := by omega
  simp only [zb_X13_begins_p0, zb_X13_begins_p66, zb_X13_begins_p71, zb_X13_begins_p85, zb_X13_begins_p90, zb_X13_begins_p109, zb_X13_begins_p114, zb_X13_begins_p128, zb_X13_begins_p133, zb_X13_begins_p145, zb_X13_begins_p157, zb_X13_begins_p168, zb_X13_begins_p180, zb_X13_begins_p192, (show (i_ v = (34 : Int32)) = (v = 34) from i_eqk hv (show (-1000 : Int) ≤ 34 by decide) (by decide)), (show (i_ v = (7 : Int32)) = (v = 7) from i_eqk hv (show (-1000 : Int) ≤ 7 by decide) (by decide)), (show (i_ v = (28 : Int32)) = (v = 28) from i_eqk hv (show (-1000 : Int) ≤ 28 by decide) (by decide)), (show (i_ v = (70 : Int32)) = (v = 70) from i_eqk hv (show (-1000 : Int) ≤ 70 by decide) (by decide)), (show (i_ v = (46 : Int32)) = (v = 46) from i_eqk hv (show (-1000 : Int) ≤ 46 by decide) (by decide)), (show (i_ v = (5 : Int32)) = (v = 5) from i_eqk hv (show (-1000 : Int) ≤ 5 by decide) (by decide)), (show (i_ v = (25 : Int32)) = (v = 25) from i_eqk hv (show (-1000 : Int) ≤ 25 by decide) (by decide))]
  rcases hc with e | e | e | e | e | e | e | e | e | e
  all_goals subst e
  · rw [if_pos (by decide)]
    have h' : Q (.inl (some (.int (bI (bDe v || bAc v))))) t := h
    refine t_declares (by omega) hv ?_
    simp only [wk1, bI_0]
    intro _
    cases hb : bDe v with
    | true =>
      rw [if_pos (by decide)]
      exact bI_tt (by rw [hb]; rfl) h'
    | false =>
      rw [if_neg (by decide)]
      refine t_acts (by omega) hv ?_
      simp only [wk1, bI_0]
      intro _
      cases hb2 : bAc v with
      | true =>
        rw [if_neg (by decide)]
        exact bI_tt (by rw [hb, hb2]; rfl) h'
      | false =>
        rw [if_pos rfl]
        exact bI_ff (by rw [hb, hb2]; rfl) h'
  · rw [if_neg (by decide), if_pos (by decide)]
    have h' : Q (.inl (some (.int (bI (bDe v || decide (v = 34)))))) t := h
    refine t_declares (by omega) hv ?_
    simp only [wk1, bI_0]
    intro _
    cases hb : bDe v with
    | true =>
      rw [if_pos (by decide)]
      exact bI_tt (by rw [hb]; rfl) h'
    | false =>
      rw [if_neg (by decide)]
      rw [hb] at h'
      exact bI_if rfl h'
  · rw [if_neg (by decide), if_neg (by decide), if_pos (by decide)]
    have h' : Q (.inl (some (.int (bI (bEx v))))) t := h
    refine t_expressionB (by omega) hv ?_
    simp only [wk1]
    exact fun _ => ⟨bI_01, h'⟩
  · rw [if_neg (by decide), if_neg (by decide), if_neg (by decide), if_pos (by decide)]
    have h' : Q (.inl (some (.int (bI (bEx v || decide (v = 7)))))) t := h
    refine t_expressionB (by omega) hv ?_
    simp only [wk1, bI_0]
    intro _
    cases hb : bEx v with
    | true =>
      rw [if_pos (by decide)]
      exact bI_tt (by rw [hb]; rfl) h'
    | false =>
      rw [if_neg (by decide)]
      rw [hb] at h'
      exact bI_if rfl h'
  · rw [if_neg (by decide), if_neg (by decide), if_neg (by decide), if_neg (by decide), if_pos (by decide)]
    have h' : Q (.inl (some (.int (bI (bEx v || decide (v = 28)))))) t := h
    refine t_expressionB (by omega) hv ?_
    simp only [wk1, bI_0]
    intro _
    cases hb : bEx v with
    | true =>
      rw [if_pos (by decide)]
      exact bI_tt (by rw [hb]; rfl) h'
    | false =>
      rw [if_neg (by decide)]
      rw [hb] at h'
      exact bI_if rfl h'
  · rw [if_neg (by decide), if_neg (by decide), if_neg (by decide), if_neg (by decide), if_neg (by decide), if_pos (by decide)]
    exact bI_if rfl h
  · rw [if_neg (by decide), if_neg (by decide), if_neg (by decide), if_neg (by decide), if_neg (by decide), if_neg (by decide), if_pos (by decide)]
    exact bI_if rfl h
  · rw [if_neg (by decide), if_neg (by decide), if_neg (by decide), if_neg (by decide), if_neg (by decide), if_neg (by decide), if_neg (by decide), if_pos (by decide)]
    exact bI_if rfl h
  · rw [if_neg (by decide), if_neg (by decide), if_neg (by decide), if_neg (by decide), if_neg (by decide), if_neg (by decide), if_neg (by decide), if_neg (by decide), if_pos (by decide)]
    exact bI_if rfl h
  · rw [if_neg (by decide), if_neg (by decide), if_neg (by decide), if_neg (by decide), if_neg (by decide), if_neg (by decide), if_neg (by decide), if_neg (by decide), if_neg (by decide)]
    exact bI_if rfl h
theorem t_lineAt {d : Nat} {x : Int32} {how : Int} (hL : 200 ≤ L) (hT : TA t K ms SS p) (hK : KRG K) (hd : d ≤ 1000) (hx : x = i_ how) (hh : 0 ≤ how ∧ how ≤ 9) (h0 : (bAt K p d && bBe how (kk K p)) = false → Q (.inr HT_) (fl3 t (if kk K p = 76 then 1 else 2) (kln K p))) (h3 : (bAt K p d && bBe how (kk K p)) = true → 20 < d → Q (.inr HT_) (fl3 t (if kk K p = 76 then 1 else 3) (kln K p))) (h1 : (bAt K p d && bBe how (kk K p)) = true → d ≤ 20 → Q (.inl none) t) : zw E L kt_M458 [.ref (w_adr E.2.1 12 0), .int (i_ d), .int x] t Q := by
  have hk := hT.kr hK
  subst hx
  refine zt_X13_lineAt_p0 (by omega) ?_
  simp only [zb_X13_lineAt_p0, zb_X13_lineAt_p19]
  refine t_isAt (by omega) hT hK hd ?_
  simp only [wk1, bI_0]
  intro _
  cases hb : bAt K p d with
  | false =>
    rw [if_pos rfl]
    rw [hb] at h0
    exact t_throw (no := 2) (e := "") (by omega) hT hk (h0 rfl)
  | true =>
    rw [if_neg (by decide)]
    rw [hb] at h0 h1 h3
    refine t_look (by omega) hT ?_
    simp only [wk1]
    intro _
    refine t_begins (by omega) hh (by omega) ?_
    simp only [wk1, bI_0]
    intro _
    cases hb2 : bBe how (kk K p) with
    | false =>
      rw [if_neg (by decide)]
      rw [hb2] at h0
      exact t_throw (no := 2) (e := "") (by omega) hT hk (h0 rfl)
    | true =>
      rw [if_pos (by decide)]
      rw [hb2] at h1 h3
      by_cases hd20 : d ≤ 20
      · rw [if_pos (by rw [show (20 : Int32) = i_ 20 from rfl]; exact (i_le (by omega) (by omega)).mpr (by omega))]
        exact h1 rfl hd20
      · rw [if_neg (fun z => hd20 (by rw [show (20 : Int32) = i_ 20 from rfl] at z; have := (i_le (by omega) (by omega)).mp z; omega))]
        exact t_throw (no := 3) (e := "") (by omega) hT hk (h3 rfl (by omega))
end PT4
