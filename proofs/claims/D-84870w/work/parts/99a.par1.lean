/-! ===== PARSERS, part 1: steps of two runs; tokens that both have ===== -/
abbrev pQ := (kx_Rs → wS → Prop) → Prop
section PST
variable {gc gt : pQ} {Φ : kx_Rs → wS → kx_Rs → wS → Prop} {E E' : zE} {L L' : Nat} {M M' : kx_M} {As As' : List Value} {w t w2 t2 : wS}
theorem PS_l0 {A : (kx_Rs → wS → Prop) → wS → Prop} {X : (kx_Rs → wS → Prop) → String → wS → Prop} (h : ∀ Q : kx_Rs → wS → Prop, Q (.inl none) w2 → zw E L M As w Q) (k : PS (fun Q => A Q w2) gt Φ) : PS (fun Q => zw E L M As w (wk0 (fun w1 => wle w w1 → A Q w1) (X Q))) gt Φ :=
  PS_lc (Kc := fun Q => wk0 (fun w1 => wle w w1 → A Q w1) (X Q)) h (fun _ => PS_l (fun _ a => fun _ => a) k)
theorem PS_l1 {v : Int32} {A : (kx_Rs → wS → Prop) → Int32 → wS → Prop} {X : (kx_Rs → wS → Prop) → String → wS → Prop} (h : ∀ Q : kx_Rs → wS → Prop, Q (.inl (some (.int v))) w2 → zw E L M As w Q) (k : PS (fun Q => A Q v w2) gt Φ) : PS (fun Q => zw E L M As w (wk1 (fun v w1 => wle w w1 → A Q v w1) (X Q))) gt Φ :=
  PS_lc (Kc := fun Q => wk1 (fun v w1 => wle w w1 → A Q v w1) (X Q)) h (fun _ => PS_l (fun _ a => fun _ => a) k)
theorem PS_lr {v : Option Nat} {A : (kx_Rs → wS → Prop) → Option Nat → wS → Prop} {X : (kx_Rs → wS → Prop) → String → wS → Prop} (h : ∀ Q : kx_Rs → wS → Prop, Q (.inl (some (va_rf v))) w2 → zw E L M As w Q) (k : PS (fun Q => A Q v w2) gt Φ) : PS (fun Q => zw E L M As w (wkr (fun v w1 => wle w w1 → A Q v w1) (X Q))) gt Φ := by
  refine PS_lc (Kc := fun Q => wkr (fun v w1 => wle w w1 → A Q v w1) (X Q)) h (fun _ => ?_)
  cases v with
  | none => exact PS_l (fun _ a => fun _ => a) k
  | some a => exact PS_l (fun _ a => fun _ => a) k
theorem PS_lx0 {e : String} {A : (kx_Rs → wS → Prop) → wS → Prop} {X : (kx_Rs → wS → Prop) → String → wS → Prop} (h : ∀ Q : kx_Rs → wS → Prop, Q (.inr e) w2 → zw E L M As w Q) (k : PS (fun Q => X Q e w2) gt Φ) : PS (fun Q => zw E L M As w (wk0 (A Q) (X Q))) gt Φ := PS_lc (Kc := fun Q => wk0 (A Q) (X Q)) h (fun _ => k)
theorem PS_lx1 {e : String} {A : (kx_Rs → wS → Prop) → Int32 → wS → Prop} {X : (kx_Rs → wS → Prop) → String → wS → Prop} (h : ∀ Q : kx_Rs → wS → Prop, Q (.inr e) w2 → zw E L M As w Q) (k : PS (fun Q => X Q e w2) gt Φ) : PS (fun Q => zw E L M As w (wk1 (A Q) (X Q))) gt Φ := PS_lc (Kc := fun Q => wk1 (A Q) (X Q)) h (fun _ => k)
theorem PS_lxr {e : String} {A : (kx_Rs → wS → Prop) → Option Nat → wS → Prop} {X : (kx_Rs → wS → Prop) → String → wS → Prop} (h : ∀ Q : kx_Rs → wS → Prop, Q (.inr e) w2 → zw E L M As w Q) (k : PS (fun Q => X Q e w2) gt Φ) : PS (fun Q => zw E L M As w (wkr (A Q) (X Q))) gt Φ := PS_lc (Kc := fun Q => wkr (A Q) (X Q)) h (fun _ => k)
theorem PS_r0 {A : (kx_Rs → wS → Prop) → wS → Prop} {X : (kx_Rs → wS → Prop) → String → wS → Prop} (h : ∀ Q : kx_Rs → wS → Prop, Q (.inl none) t2 → zw E L M As t Q) (k : PS gc (fun Q => A Q t2) Φ) : PS gc (fun Q => zw E L M As t (wk0 (fun w1 => wle t w1 → A Q w1) (X Q))) Φ :=
  PS_rc (Kt := fun Q => wk0 (fun w1 => wle t w1 → A Q w1) (X Q)) h (fun _ => PS_r (fun _ a => fun _ => a) k)
theorem PS_r1 {v : Int32} {A : (kx_Rs → wS → Prop) → Int32 → wS → Prop} {X : (kx_Rs → wS → Prop) → String → wS → Prop} (h : ∀ Q : kx_Rs → wS → Prop, Q (.inl (some (.int v))) t2 → zw E L M As t Q) (k : PS gc (fun Q => A Q v t2) Φ) : PS gc (fun Q => zw E L M As t (wk1 (fun v w1 => wle t w1 → A Q v w1) (X Q))) Φ :=
  PS_rc (Kt := fun Q => wk1 (fun v w1 => wle t w1 → A Q v w1) (X Q)) h (fun _ => PS_r (fun _ a => fun _ => a) k)
theorem PS_rx0 {e : String} {A : (kx_Rs → wS → Prop) → wS → Prop} {X : (kx_Rs → wS → Prop) → String → wS → Prop} (h : ∀ Q : kx_Rs → wS → Prop, Q (.inr e) t2 → zw E L M As t Q) (k : PS gc (fun Q => X Q e t2) Φ) : PS gc (fun Q => zw E L M As t (wk0 (A Q) (X Q))) Φ := PS_rc (Kt := fun Q => wk0 (A Q) (X Q)) h (fun _ => k)
theorem PS_rx1 {e : String} {A : (kx_Rs → wS → Prop) → Int32 → wS → Prop} {X : (kx_Rs → wS → Prop) → String → wS → Prop} (h : ∀ Q : kx_Rs → wS → Prop, Q (.inr e) t2 → zw E L M As t Q) (k : PS gc (fun Q => X Q e t2) Φ) : PS gc (fun Q => zw E L M As t (wk1 (A Q) (X Q))) Φ := PS_rc (Kt := fun Q => wk1 (A Q) (X Q)) h (fun _ => k)
theorem eS_0 {P : kx_Rs → wS → Prop} {A : (kx_Rs → wS → Prop) → wS → Prop} {X : (kx_Rs → wS → Prop) → String → wS → Prop} (h : ∀ Q : kx_Rs → wS → Prop, Q (.inl none) w2 → zw E L M As w Q) (k : eS (fun Q => A Q w2) P) : eS (fun Q => zw E L M As w (wk0 (fun w1 => wle w w1 → A Q w1) (X Q))) P :=
  eS_c (Kc := fun Q => wk0 (fun w1 => wle w w1 → A Q w1) (X Q)) h (fun _ => eS_l (fun _ a => fun _ => a) k)
theorem eS_1 {P : kx_Rs → wS → Prop} {v : Int32} {A : (kx_Rs → wS → Prop) → Int32 → wS → Prop} {X : (kx_Rs → wS → Prop) → String → wS → Prop} (h : ∀ Q : kx_Rs → wS → Prop, Q (.inl (some (.int v))) w2 → zw E L M As w Q) (k : eS (fun Q => A Q v w2) P) : eS (fun Q => zw E L M As w (wk1 (fun v w1 => wle w w1 → A Q v w1) (X Q))) P :=
  eS_c (Kc := fun Q => wk1 (fun v w1 => wle w w1 → A Q v w1) (X Q)) h (fun _ => eS_l (fun _ a => fun _ => a) k)
theorem eS_x0 {P : kx_Rs → wS → Prop} {e : String} {A : (kx_Rs → wS → Prop) → wS → Prop} {X : (kx_Rs → wS → Prop) → String → wS → Prop} (h : ∀ Q : kx_Rs → wS → Prop, Q (.inr e) w2 → zw E L M As w Q) (k : eS (fun Q => X Q e w2) P) : eS (fun Q => zw E L M As w (wk0 (A Q) (X Q))) P := eS_c (Kc := fun Q => wk0 (A Q) (X Q)) h (fun _ => k)
theorem eS_x1 {P : kx_Rs → wS → Prop} {e : String} {A : (kx_Rs → wS → Prop) → Int32 → wS → Prop} {X : (kx_Rs → wS → Prop) → String → wS → Prop} (h : ∀ Q : kx_Rs → wS → Prop, Q (.inr e) w2 → zw E L M As w Q) (k : eS (fun Q => X Q e w2) P) : eS (fun Q => zw E L M As w (wk1 (A Q) (X Q))) P := eS_c (Kc := fun Q => wk1 (A Q) (X Q)) h (fun _ => k)
/-- the left one has ended: the right one alone -/
theorem PS_el {r : kx_Rs} (h : eS gt (fun r' t' => Φ r w r' t')) : PS (fun Q => Q r w) gt Φ := h.elim (fun h => .inr (.inl h)) (fun ⟨r', t', a, b⟩ => .inr (.inr ⟨r, w, r', t', fun _ h => h, a, b⟩))
/-- the left one is told to go on so far -/
theorem PS_lk {g : pQ} (h : ∀ Q, g Q → gc Q) (k : PS g gt Φ) : PS gc gt Φ := PS_l h k
end PST
abbrev pK := List (Tk × Nat × Int)
/-- the token at a place, its kind (as the twin numbers it) -/
def kA (K : pK) (p : Nat) : Tk × Nat × Int := K.getD p (tFin, 0, -1)
def kk (K : pK) (p : Nat) : Int := kd3 (kA K p).1
/-- what is asked of the tokens up to the first bad one, or the last -/
def KOK (K : pK) : Prop := (0 < K.length ∧ K.length ≤ 2600) ∧ (∀ k, k + 1 < K.length → kk K k ≠ 75 ∧ kk K k ≠ 76) ∧ (kk K (K.length - 1) = 75 ∨ kk K (K.length - 1) = 76) ∧ (∀ k, k < K.length → (k = 0 ∨ kk K (k - 1) = 74) → kk K k = 75 ∨ 0 ≤ (kA K k).2.2) ∧ ∀ k, k < K.length → (kA K k).1.1 < 9 ∧ (kA K k).2.2 ≤ 1300 ∧ -1 ≤ (kA K k).2.2
/-- the tokens as MeetingHouse has them, as the twin has them -/
def KC (E : zE) (w : wS) (K : pK) (ns : List (List Int)) (sm : Nat) : Prop := zA E ∧ (w_n w 1 0 2 = 12004 ∧ w_n w 1 0 3 = 12004 ∧ w_n w 1 0 4 = 12004 ∧ w_n w 1 0 5 = 12004 ∧ w_n w 1 0 6 = 12004) ∧ ∀ k x, K[k]? = some x → CK E w ns sm k x
def KT3 (t : wS) (K : pK) (ms SS : List (List Int)) : Prop := (w_n t 12 0 7 = 12002 ∧ w_n t 12 0 8 = 12002 ∧ w_n t 12 0 9 = 12002 ∧ w_n t 12 0 10 = 12002) ∧ (w_n t 12 0 26 = 14000 ∧ w_n t 12 0 27 = 14000 ∧ w_n t 12 0 28 = 14000 ∧ w_n t 12 0 29 = 14000 ∧ w_n t 12 0 30 = 14000 ∧ w_n t 12 0 31 = 14000 ∧ w_n t 12 0 32 = 14000 ∧ w_n t 12 0 33 = 14000 ∧ w_n t 12 0 34 = 14000 ∧ w_n t 12 0 41 = 14000 ∧ w_n t 12 0 42 = 14000 ∧ w_n t 12 0 96 = 14000) ∧ (∃ m : Nat, w_i t 12 0 6 = i_ m ∧ K.length ≤ m ∧ m ≤ 12002) ∧ ∀ k x, K[k]? = some x → TCK t ms SS k x
/-- MeetingHouse's parser stands at a token; the twin's -/
def CA (E : zE) (w : wS) (K : pK) (ns : List (List Int)) (sm p : Nat) : Prop := (KC E w K ns sm ∧ KOK K) ∧ w_i w 4 0 3 = i_ p ∧ p < K.length
def TA (t : wS) (K : pK) (ms SS : List (List Int)) (p : Nat) : Prop := (KT3 t K ms SS ∧ KOK K) ∧ w_i t 12 0 35 = i_ p ∧ p < K.length
/-- kinds of tokens that begin something -/
def bTy (k : Int) : Bool := decide (k = 12) || (decide (k = 4) || decide (k = 3))
def bDe (k : Int) : Bool := bTy k || (decide (k = 42) || (decide (k = 6) || (decide (k = 30) || (decide (k = 33) || (decide (k = 24) || decide (k = 23))))))
def bAc (k : Int) : Bool := decide (k = 28) || (decide (k = 29) || (decide (k = 70) || (decide (k = 26) || (decide (k = 20) || (decide (k = 11) || (decide (k = 5) || (decide (k = 35) || (decide (k = 22) || decide (k = 1)))))))))
def bOd (k : Int) : Bool := decide (k = 71) || (decide (k = 72) || (decide (k = 73) || (decide (k = 32) || (decide (k = 8) || (decide (k = 16) || (decide (k = 15) || (bTy k || (decide (k = 40) || (decide (k = 42) || decide (k = 70))))))))))
def bUn (k : Int) : Bool := decide (k = 58) || (decide (k = 67) || (decide (k = 17) || (decide (k = 14) || decide (k = 27))))
def bEx (k : Int) : Bool := bOd k || bUn k
def bOp (k : Int) : Bool := (decide (51 ≤ k) && decide (k ≤ 66)) || (decide (k = 21) || (decide (k = 14) || (decide (k = 31) || decide (k = 0))))
/-- a word or sign of MeetingHouse by its kind in the twin -/
def wcd (c v : Int) : Prop := (0 ≤ c ∧ c < 36 ∧ v = c) ∨ (36 ≤ c ∧ c ≤ 63 ∧ v = c + 4)
theorem bI_t {b : Bool} (h : b = true) : bI b = 1 := by rw [h]; rfl
theorem bI_f {b : Bool} (h : b = false) : bI b = 0 := by rw [h]; rfl
theorem bI_01 {b : Bool} : bI b = 0 ∨ bI b = 1 := by cases b <;> simp [bI]
theorem kA_at {K : pK} {p : Nat} (h : p < K.length) : K[p]? = some (kA K p) := by
  unfold kA
  rw [List.getD_eq_getElem?_getD, List.getElem?_eq_getElem h]
  rfl
section PRD
variable {E : zE} {L : Nat} {w : wS} {Q : kx_Rs → wS → Prop} {K : pK} {ns ms SS : List (List Int)} {sm p q : Nat}
theorem eo_ne (hA : zA E) {i j : Nat} (hi : i < 69) (hj : j < 69) (h : i ≠ j) : ¬ (some (E.1.1 i) = some (E.1.1 j)) := fun e => h (hA.1 i hi j hj (Option.some.inj e))
theorem eo_eq (hA : zA E) {i j : Nat} (hi : i < 69) (hj : j < 69) : (some (E.1.1 i) = some (E.1.1 j)) = (i = j) := propext ⟨fun e => hA.1 i hi j hj (Option.some.inj e), fun e => by rw [e]⟩
theorem CA.row (h : CA E w K ns sm p) : CK E w ns sm p (kA K p) := h.1.1.2.2 p _ (kA_at h.2.2)
theorem CA.lt (h : CA E w K ns sm p) : p < 2600 := by have := h.1.2.1.2; have := h.2.2; omega
theorem TA.lt (h : TA w K ms SS p) : p < 2600 := by have := h.1.2.1.2; have := h.2.2; omega
theorem TA.row (h : TA w K ms SS p) : TCK w ms SS p (kA K p) := h.1.1.2.2.2 p _ (kA_at h.2.2)
/-- sorts and kinds -/
theorem CK_kk {x : Tk × Nat × Int} (h : CK E w ns sm p x) (h9 : x.1.1 < 9) : (x.1.1 = 0 ∧ w_a w 1 0 3 p = i_ (kd3 x.1) ∧ 0 ≤ kd3 x.1 ∧ kd3 x.1 < 36) ∨ (x.1.1 = 5 ∧ w_a w 1 0 3 p = i_ (kd3 x.1 - 4) ∧ 40 ≤ kd3 x.1 ∧ kd3 x.1 ≤ 67) ∨ (x.1.1 = 1 ∧ kd3 x.1 = 70) ∨ (x.1.1 = 2 ∧ kd3 x.1 = 71) ∨ (x.1.1 = 3 ∧ kd3 x.1 = 73) ∨ (x.1.1 = 4 ∧ kd3 x.1 = 72) ∨ (x.1.1 = 6 ∧ kd3 x.1 = 76) ∨ (x.1.1 = 7 ∧ kd3 x.1 = 74) ∨ (x.1.1 = 8 ∧ kd3 x.1 = 75) := by
  obtain ⟨⟨i, v, l⟩, ln, b⟩ := x
  obtain ⟨-, hv, -⟩ := h
  simp only at h9 hv ⊢
  have : i = 0 ∨ i = 1 ∨ i = 2 ∨ i = 3 ∨ i = 4 ∨ i = 5 ∨ i = 6 ∨ i = 7 ∨ i = 8 := by omega
  rcases this with h | h | h | h | h | h | h | h | h
  all_goals
    subst h
    simp only [CV, kd3] at hv ⊢
  · exact .inl ⟨trivial, hv⟩
  · simp
  · simp
  · simp
  · simp
  · refine .inr (.inl ⟨trivial, ?_, by omega, by omega⟩)
    rw [show v + 4 - 4 = v by omega]
    exact hv.1
  · simp
  · simp
  · simp
theorem CA.kkc (h : CA E w K ns sm p) : ((kA K p).1.1 = 0 ∧ w_a w 1 0 3 p = i_ (kk K p) ∧ 0 ≤ kk K p ∧ kk K p < 36) ∨ ((kA K p).1.1 = 5 ∧ w_a w 1 0 3 p = i_ (kk K p - 4) ∧ 40 ≤ kk K p ∧ kk K p ≤ 67) ∨ ((kA K p).1.1 = 1 ∧ kk K p = 70) ∨ ((kA K p).1.1 = 2 ∧ kk K p = 71) ∨ ((kA K p).1.1 = 3 ∧ kk K p = 73) ∨ ((kA K p).1.1 = 4 ∧ kk K p = 72) ∨ ((kA K p).1.1 = 6 ∧ kk K p = 76) ∨ ((kA K p).1.1 = 7 ∧ kk K p = 74) ∨ ((kA K p).1.1 = 8 ∧ kk K p = 75) := CK_kk h.row (h.1.2.2.2.2.2 p h.2.2).1
theorem CA.kr (h : CA E w K ns sm p) : 0 ≤ kk K p ∧ kk K p ≤ 76 := by
  have := h.kkc
  omega
theorem CA.ty (h : CA E w K ns sm p) : w_r w 1 0 2 p = some (E.1.1 (kA K p).1.1) := h.row.1
theorem c_is {x : Int32} {c v : Int} (hL : 19 ≤ L) (hC : CA E w K ns sm p) (hx : x = i_ c) (hc : wcd c v) (h : Q (.inl (some (.int (bI (decide (kk K p = v)))))) w) : zw E L kt_M183 [.ref (w_adr E.2.1 4 0), .int x] w Q := by
  have hp := hC.lt
  have hA := hC.1.1.1
  have hty := hC.ty
  have hk := hC.kkc
  obtain ⟨l2, l3, l4, l5, l6⟩ := hC.1.1.2.1
  have hpos := hC.2.1
  subst hx
  refine zt_X5_is_p0 hL ?_
  have fin : ∀ b : Bool, b = decide (kk K p = v) → zb_X5_is_p57 E L Q (bI b) w := by
    intro b e
    rw [e]
    exact ⟨bI_01, h⟩
  have p36 : (kA K p).1.1 = 0 ∨ (kA K p).1.1 = 5 → zb_X5_is_p36 E L Q (i_ c) w := by
    intro h05
    simp only [zb_X5_is_p36, zb_X5_is_p56, hpos, l3, i_nat' (show p < 2147483648 by omega)]
    refine ⟨i_inb' (by omega) (by omega), ?_⟩
    unfold wcd at hc
    by_cases e : kk K p = v
    · rw [if_neg (not_not_intro (by rcases hk with hk | hk | hk; rw [hk.2.1]; congr 1; omega; rw [hk.2.1]; congr 1; omega; omega))]
      exact fin true (by rw [decide_eq_true e])
    · rw [if_pos (by rcases hk with hk | hk | hk; rw [hk.2.1]; intro z; have := (i_eq (by omega) (by omega)).mp z; omega; rw [hk.2.1]; intro z; have := (i_eq (by omega) (by omega)).mp z; omega; omega)]
      exact fin false (by rw [decide_eq_false e])
  simp only [zb_X5_is_p0, hpos, l2, i_nat' (show p < 2147483648 by omega), hty]
  refine ⟨i_inb' (by omega) (by omega), ?_⟩
  by_cases h0 : (kA K p).1.1 = 0
  · rw [if_pos (by rw [h0])]
    exact p36 (.inl h0)
  rw [if_neg (eo_ne hA (by omega) (by omega) h0)]
  refine ⟨i_inb' (by omega) (by omega), ?_⟩
  by_cases h5 : (kA K p).1.1 = 5
  · rw [if_neg (not_not_intro (by rw [h5]))]
    exact p36 (.inr h5)
  rw [if_pos (eo_ne hA (by omega) (by omega) h5)]
  simp only [zb_X5_is_p56]
  refine fin false (decide_eq_false ?_).symm
  unfold wcd at hc
  omega
theorem c_isName (hL : 19 ≤ L) (hC : CA E w K ns sm p) (h : Q (.inl (some (.int (bI (decide (kk K p = 70)))))) w) : zw E L kt_M184 [.ref (w_adr E.2.1 4 0)] w Q := by
  have hp := hC.lt
  have hA := hC.1.1.1
  have hty := hC.ty
  have hk := hC.kkc
  obtain ⟨l2, l3, l4, l5, l6⟩ := hC.1.1.2.1
  have hpos := hC.2.1
  refine zt_X5_isName_p0 hL ?_
  simp only [zb_X5_isName_p0, hpos, l2, i_nat' (show p < 2147483648 by omega), hty]
  refine ⟨i_inb' (by omega) (by omega), ?_⟩
  by_cases h1 : (kA K p).1.1 = 1
  · rw [if_neg (not_not_intro (by rw [h1]))]
    refine ⟨by decide, ?_⟩
    rw [decide_eq_true (show kk K p = 70 by omega)] at h
    exact h
  · rw [if_pos (eo_ne hA (by omega) (by omega) h1)]
    refine ⟨by decide, ?_⟩
    rw [decide_eq_false (show ¬ kk K p = 70 by omega)] at h
    exact h
theorem c_line (hL : 19 ≤ L) (hC : CA E w K ns sm p) (h : Q (.inl (some (.int (i_ ((kA K p).2.1 : Nat))))) w) : zw E L kt_M189 [.ref (w_adr E.2.1 4 0)] w Q := by
  have hp := hC.lt
  have hA := hC.1.1.1
  have hty := hC.ty
  have hk := hC.kkc
  obtain ⟨l2, l3, l4, l5, l6⟩ := hC.1.1.2.1
  have hpos := hC.2.1
  refine zt_X5_line_p0 hL ?_
  simp only [zb_X5_line_p0, hpos, l5, i_nat' (show p < 2147483648 by omega)]
  refine ⟨i_inb' (by omega) (by omega), ?_⟩
  rw [hC.row.2.2.1]
  exact h
theorem w_isType {v : Int} (hL : 19 ≤ L) (hv : -1000 ≤ v ∧ v ≤ 1000) (h : Q (.inl (some (.int (bI (bTy v))))) w) : zw E L kt_M333 [.int (i_ v)] w Q := by
  refine zt_X15_isType_p0 hL ?_
  simp only [zb_X15_isType_p0, zb_X15_isType_p16, zb_X15_isType_p21, show (12 : Int32) = i_ 12 from rfl, show (4 : Int32) = i_ 4 from rfl, show (3 : Int32) = i_ 3 from rfl, i_eqk hv (show (-1000 : Int) ≤ 12 by decide) (by decide), i_eqk hv (show (-1000 : Int) ≤ 4 by decide) (by decide), i_eqk hv (show (-1000 : Int) ≤ 3 by decide) (by decide)]
  unfold bTy at h
  by_cases h1 : v = 12
  · rw [if_pos h1]
    simp only [h1] at h
    exact ⟨by decide, h⟩
  rw [if_neg h1]
  by_cases h2 : v = 4
  · rw [if_pos h2]
    simp only [h2] at h
    exact ⟨by decide, h⟩
  rw [if_neg h2]
  by_cases h3 : v = 3
  · rw [if_neg (not_not_intro h3)]
    simp only [h3] at h
    exact ⟨by decide, h⟩
  rw [if_pos h3]
  rw [decide_eq_false h1, decide_eq_false h2, decide_eq_false h3] at h
  exact ⟨by decide, h⟩
theorem c_isType (hL : 60 ≤ L) (hC : CA E w K ns sm p) (h : Q (.inl (some (.int (bI (bTy (kk K p)))))) w) : zw E L kt_M186 [.ref (w_adr E.2.1 4 0)] w Q := by
  have hp := hC.lt
  have hA := hC.1.1.1
  have hty := hC.ty
  have hk := hC.kkc
  obtain ⟨l2, l3, l4, l5, l6⟩ := hC.1.1.2.1
  have hpos := hC.2.1
  refine zt_X5_isType_p0 (by omega) ?_
  simp only [zb_X5_isType_p0, hpos, l2, l3, i_nat' (show p < 2147483648 by omega), hty]
  refine ⟨i_inb' (by omega) (by omega), ?_⟩
  by_cases h0 : (kA K p).1.1 = 0
  · rw [if_neg (not_not_intro (by rw [h0]))]
    refine ⟨i_inb' (by omega) (by omega), ?_⟩
    rcases hk with hk | hk
    · rw [hk.2.1]
      refine w_isType (by omega) (by omega) ?_
      simp only [wk1]
      intro _
      simp only [zb_X5_isType_p40, zb_X5_isType_p41]
      cases hb : bTy (kk K p) with
      | true =>
        rw [hb] at h
        rw [if_neg (by decide)]
        exact ⟨by decide, h⟩
      | false =>
        rw [hb] at h
        rw [if_pos (by decide)]
        exact ⟨by decide, h⟩
    · omega
  · rw [if_pos (eo_ne hA (by omega) (by omega) h0)]
    simp only [zb_X5_isType_p40, zb_X5_isType_p41]
    refine ⟨by decide, ?_⟩
    have : bTy (kk K p) = false := by
      unfold bTy
      simp only [Bool.or_eq_false_iff, decide_eq_false_iff_not]
      omega
    rw [this] at h
    exact h
theorem c_isOperation (hL : 60 ≤ L) (hC : CA E w K ns sm p) (h : Q (.inl (some (.int (bI (bOp (kk K p)))))) w) : zw E L kt_M185 [.ref (w_adr E.2.1 4 0)] w Q := by
  have hp := hC.lt
  have hA := hC.1.1.1
  have hty := hC.ty
  have hk := hC.kkc
  obtain ⟨l2, l3, l4, l5, l6⟩ := hC.1.1.2.1
  have hpos := hC.2.1
  refine zt_X5_isOperation_p0 (by omega) ?_
  have p38 : (kA K p).1.1 = 0 ∨ (kA K p).1.1 = 5 → zb_X5_isOperation_p38 E L Q w := by
    intro h05
    simp only [zb_X5_isOperation_p38, zb_X5_isOperation_p63, zb_X5_isOperation_p85, zb_X5_isOperation_p90, hpos, l3, i_nat' (show p < 2147483648 by omega)]
    have hv : ∃ v : Int, w_a w 1 0 3 p = i_ v ∧ (0 ≤ v ∧ v < 100) ∧ ((v < 36 ∧ kk K p = v) ∨ (36 ≤ v ∧ kk K p = v + 4)) := by
      rcases hk with hk | hk | hk
      · exact ⟨kk K p, hk.2.1, by omega, by omega⟩
      · exact ⟨kk K p - 4, hk.2.1, by omega, by omega⟩
      · omega
    obtain ⟨v, e1, e2, e3⟩ := hv
    have hb : bOp (kk K p) = ((decide (47 ≤ v) && decide (v ≤ 62)) || (decide (v = 21) || (decide (v = 14) || (decide (v = 31) || decide (v = 0))))) := by
      unfold bOp
      rw [Bool.eq_iff_iff]
      simp only [Bool.or_eq_true, Bool.and_eq_true, decide_eq_true_eq]
      omega
    rw [hb] at h
    simp only [e1, show (47 : Int32) = i_ 47 from rfl, show (62 : Int32) = i_ 62 from rfl, show (21 : Int32) = i_ 21 from rfl, show (14 : Int32) = i_ 14 from rfl, show (31 : Int32) = i_ 31 from rfl, i_ltk (show -1000 ≤ v ∧ v ≤ 1000 by omega) (show (-1000 : Int) ≤ 47 by decide) (by decide), i_lek (show -1000 ≤ v ∧ v ≤ 1000 by omega) (show (-1000 : Int) ≤ 62 by decide) (by decide), i_eqk (show -1000 ≤ v ∧ v ≤ 1000 by omega) (show (-1000 : Int) ≤ 21 by decide) (by decide), i_eqk (show -1000 ≤ v ∧ v ≤ 1000 by omega) (show (-1000 : Int) ≤ 14 by decide) (by decide), i_eqk (show -1000 ≤ v ∧ v ≤ 1000 by omega) (show (-1000 : Int) ≤ 31 by decide) (by decide), show (i_ v = (0 : Int32)) = (v = 0) from i_eqk (show -1000 ≤ v ∧ v ≤ 1000 by omega) (show (-1000 : Int) ≤ 0 by decide) (by decide)]
    refine ⟨i_inb' (by omega) (by omega), ?_⟩
    have tt : ((decide (47 ≤ v) && decide (v ≤ 62)) || (decide (v = 21) || (decide (v = 14) || (decide (v = 31) || decide (v = 0))))) = true → Q (.inl (some (.int 1))) w := fun e => by rw [e] at h; exact h
    have ff : ((decide (47 ≤ v) && decide (v ≤ 62)) || (decide (v = 21) || (decide (v = 14) || (decide (v = 31) || decide (v = 0))))) = false → Q (.inl (some (.int 0))) w := fun e => by rw [e] at h; exact h
    repeat' split
    all_goals first
      | (refine ⟨by decide, tt ?_⟩; simp only [Bool.or_eq_true, Bool.and_eq_true, decide_eq_true_eq]; omega)
      | (refine ⟨by decide, ff ?_⟩; simp only [Bool.or_eq_false_iff, Bool.and_eq_false_iff, decide_eq_false_iff_not]; omega)
  simp only [zb_X5_isOperation_p0, hpos, l2, i_nat' (show p < 2147483648 by omega), hty]
  refine ⟨i_inb' (by omega) (by omega), ?_⟩
  by_cases h0 : (kA K p).1.1 = 0
  · rw [if_pos (by rw [h0])]
    exact p38 (.inl h0)
  rw [if_neg (eo_ne hA (by omega) (by omega) h0)]
  refine ⟨i_inb' (by omega) (by omega), ?_⟩
  by_cases h5 : (kA K p).1.1 = 5
  · rw [if_pos (by rw [h5])]
    exact p38 (.inr h5)
  rw [if_neg (eo_ne hA (by omega) (by omega) h5)]
  have : bOp (kk K p) = false := by
    unfold bOp
    simp only [Bool.or_eq_false_iff, Bool.and_eq_false_iff, decide_eq_false_iff_not]
    omega
  rw [this] at h
  exact h
theorem c_beginsExpression (hL : 100 ≤ L) (hC : CA E w K ns sm p) (h : Q (.inl (some (.int (bI (bEx (kk K p)))))) w) : zw E L kt_M165 [.ref (w_adr E.2.1 4 0)] w Q := by
  have hp := hC.lt
  have hA := hC.1.1.1
  have hty := hC.ty
  have hk := hC.kkc
  obtain ⟨l2, l3, l4, l5, l6⟩ := hC.1.1.2.1
  have hpos := hC.2.1
  have tt : bEx (kk K p) = true → Q (.inl (some (.int 1))) w := fun e => by rw [e] at h; exact h
  have ff : bEx (kk K p) = false → Q (.inl (some (.int 0))) w := fun e => by rw [e] at h; exact h
  refine zt_X5_beginsExpression_p0 (by omega) ?_
  simp only [zb_X5_beginsExpression_p0, zb_X5_beginsExpression_p48, zb_X5_beginsExpression_p149, zb_X5_beginsExpression_p154, hpos, l2, i_nat' (show p < 2147483648 by omega), hty]
  refine ⟨i_inb' (by omega) (by omega), ?_⟩
  simp only [eo_eq hA (show (kA K p).1.1 < 69 by omega) (show 1 < 69 by decide), eo_eq hA (show (kA K p).1.1 < 69 by omega) (show 2 < 69 by decide), eo_eq hA (show (kA K p).1.1 < 69 by omega) (show 3 < 69 by decide), eo_eq hA (show (kA K p).1.1 < 69 by omega) (show 4 < 69 by decide)]
  unfold bEx bOd bUn at tt ff
  by_cases h1 : (kA K p).1.1 = 1
  · rw [if_pos h1]
    refine tt ?_
    simp only [Bool.or_eq_true, decide_eq_true_eq]
    omega
  rw [if_neg h1]
  by_cases h2 : (kA K p).1.1 = 2
  · rw [if_pos h2]
    refine tt ?_
    simp only [Bool.or_eq_true, decide_eq_true_eq]
    omega
  rw [if_neg h2]
  by_cases h4 : (kA K p).1.1 = 4
  · rw [if_pos h4]
    refine tt ?_
    simp only [Bool.or_eq_true, decide_eq_true_eq]
    omega
  rw [if_neg h4]
  by_cases h3 : (kA K p).1.1 = 3
  · rw [if_pos h3]
    refine tt ?_
    simp only [Bool.or_eq_true, decide_eq_true_eq]
    omega
  rw [if_neg h3]
  refine c_isType (by omega) hC ?_
  simp only [wk1, bI_0]
  intro _
  cases hb : bTy (kk K p) with
  | true =>
    rw [if_neg (by decide)]
    refine tt ?_
    rw [hb]
    simp
  | false =>
    rw [if_pos rfl]
    rw [hb] at tt ff
    refine c_is (c := 54) (v := 58) (by omega) hC rfl (by unfold wcd; omega) ?_
    simp only [wk1, bI_0]
    intro _
    by_cases q1 : kk K p = 58
    · rw [decide_eq_true q1, if_pos (by decide)]
      exact ⟨by decide, tt (by rw [q1]; rfl)⟩
    rw [decide_eq_false q1, if_neg (by decide)]
    refine c_is (c := 63) (v := 67) (by omega) hC rfl (by unfold wcd; omega) ?_
    simp only [wk1, bI_0]
    intro _
    by_cases q2 : kk K p = 67
    · rw [decide_eq_true q2, if_pos (by decide)]
      exact ⟨by decide, tt (by rw [q2]; rfl)⟩
    rw [decide_eq_false q2, if_neg (by decide)]
    refine c_is (c := 17) (v := 17) (by omega) hC rfl (by unfold wcd; omega) ?_
    simp only [wk1, bI_0]
    intro _
    by_cases q3 : kk K p = 17
    · rw [decide_eq_true q3, if_pos (by decide)]
      exact ⟨by decide, tt (by rw [q3]; rfl)⟩
    rw [decide_eq_false q3, if_neg (by decide)]
    refine c_is (c := 14) (v := 14) (by omega) hC rfl (by unfold wcd; omega) ?_
    simp only [wk1, bI_0]
    intro _
    by_cases q4 : kk K p = 14
    · rw [decide_eq_true q4, if_pos (by decide)]
      exact ⟨by decide, tt (by rw [q4]; rfl)⟩
    rw [decide_eq_false q4, if_neg (by decide)]
    refine c_is (c := 27) (v := 27) (by omega) hC rfl (by unfold wcd; omega) ?_
    simp only [wk1, bI_0]
    intro _
    by_cases q5 : kk K p = 27
    · rw [decide_eq_true q5, if_pos (by decide)]
      exact ⟨by decide, tt (by rw [q5]; rfl)⟩
    rw [decide_eq_false q5, if_neg (by decide)]
    refine c_is (c := 32) (v := 32) (by omega) hC rfl (by unfold wcd; omega) ?_
    simp only [wk1, bI_0]
    intro _
    by_cases q6 : kk K p = 32
    · rw [decide_eq_true q6, if_pos (by decide)]
      exact ⟨by decide, tt (by rw [q6]; rfl)⟩
    rw [decide_eq_false q6, if_neg (by decide)]
    refine c_is (c := 8) (v := 8) (by omega) hC rfl (by unfold wcd; omega) ?_
    simp only [wk1, bI_0]
    intro _
    by_cases q7 : kk K p = 8
    · rw [decide_eq_true q7, if_pos (by decide)]
      exact ⟨by decide, tt (by rw [q7]; rfl)⟩
    rw [decide_eq_false q7, if_neg (by decide)]
    refine c_is (c := 16) (v := 16) (by omega) hC rfl (by unfold wcd; omega) ?_
    simp only [wk1, bI_0]
    intro _
    by_cases q8 : kk K p = 16
    · rw [decide_eq_true q8, if_pos (by decide)]
      exact ⟨by decide, tt (by rw [q8]; rfl)⟩
    rw [decide_eq_false q8, if_neg (by decide)]
    refine c_is (c := 15) (v := 15) (by omega) hC rfl (by unfold wcd; omega) ?_
    simp only [wk1, bI_0]
    intro _
    by_cases q9 : kk K p = 15
    · rw [decide_eq_true q9, if_pos (by decide)]
      exact ⟨by decide, tt (by rw [q9]; rfl)⟩
    rw [decide_eq_false q9, if_neg (by decide)]
    refine c_is (c := 36) (v := 40) (by omega) hC rfl (by unfold wcd; omega) ?_
    simp only [wk1, bI_0]
    intro _
    by_cases q10 : kk K p = 40
    · rw [decide_eq_true q10, if_pos (by decide)]
      exact ⟨by decide, tt (by rw [q10]; rfl)⟩
    rw [decide_eq_false q10, if_neg (by decide)]
    refine c_is (c := 38) (v := 42) (by omega) hC rfl (by unfold wcd; omega) ?_
    simp only [wk1, bI_0]
    intro _
    by_cases q11 : kk K p = 42
    · rw [decide_eq_true q11, if_neg (by decide)]
      exact ⟨by decide, tt (by rw [q11]; rfl)⟩
    rw [decide_eq_false q11, if_pos rfl]
    refine ⟨by decide, ff ?_⟩
    simp only [Bool.or_eq_false_iff, decide_eq_false_iff_not, eq_self, true_and, and_true]
    omega
theorem c_beginsAction (hL : 100 ≤ L) (hC : CA E w K ns sm p) (h : Q (.inl (some (.int (bI (bAc (kk K p)))))) w) : zw E L kt_M163 [.ref (w_adr E.2.1 4 0)] w Q := by
  have hp := hC.lt
  have hA := hC.1.1.1
  have hty := hC.ty
  have hk := hC.kkc
  obtain ⟨l2, l3, l4, l5, l6⟩ := hC.1.1.2.1
  have hpos := hC.2.1
  have tt : bAc (kk K p) = true → Q (.inl (some (.int 1))) w := fun e => by rw [e] at h; exact h
  have ff : bAc (kk K p) = false → Q (.inl (some (.int 0))) w := fun e => by rw [e] at h; exact h
  refine zt_X5_beginsAction_p0 (by omega) ?_
  simp only [zb_X5_beginsAction_p0, zb_X5_beginsAction_p88, zb_X5_beginsAction_p93]
  refine c_isName (by omega) hC ?_
  simp only [wk1, bI_0]
  intro _
  by_cases q0 : kk K p = 70
  · rw [decide_eq_true q0, if_neg (by decide)]
    exact tt (by rw [q0]; rfl)
  rw [decide_eq_false q0, if_pos rfl]
  refine c_is (c := 28) (v := 28) (by omega) hC rfl (by unfold wcd; omega) ?_
  simp only [wk1, bI_0]
  intro _
  by_cases q1 : kk K p = 28
  · rw [decide_eq_true q1, if_pos (by decide)]
    exact ⟨by decide, tt (by rw [q1]; rfl)⟩
  rw [decide_eq_false q1, if_neg (by decide)]
  refine c_is (c := 29) (v := 29) (by omega) hC rfl (by unfold wcd; omega) ?_
  simp only [wk1, bI_0]
  intro _
  by_cases q2 : kk K p = 29
  · rw [decide_eq_true q2, if_pos (by decide)]
    exact ⟨by decide, tt (by rw [q2]; rfl)⟩
  rw [decide_eq_false q2, if_neg (by decide)]
  refine c_is (c := 26) (v := 26) (by omega) hC rfl (by unfold wcd; omega) ?_
  simp only [wk1, bI_0]
  intro _
  by_cases q3 : kk K p = 26
  · rw [decide_eq_true q3, if_pos (by decide)]
    exact ⟨by decide, tt (by rw [q3]; rfl)⟩
  rw [decide_eq_false q3, if_neg (by decide)]
  refine c_is (c := 20) (v := 20) (by omega) hC rfl (by unfold wcd; omega) ?_
  simp only [wk1, bI_0]
  intro _
  by_cases q4 : kk K p = 20
  · rw [decide_eq_true q4, if_pos (by decide)]
    exact ⟨by decide, tt (by rw [q4]; rfl)⟩
  rw [decide_eq_false q4, if_neg (by decide)]
  refine c_is (c := 11) (v := 11) (by omega) hC rfl (by unfold wcd; omega) ?_
  simp only [wk1, bI_0]
  intro _
  by_cases q5 : kk K p = 11
  · rw [decide_eq_true q5, if_pos (by decide)]
    exact ⟨by decide, tt (by rw [q5]; rfl)⟩
  rw [decide_eq_false q5, if_neg (by decide)]
  refine c_is (c := 5) (v := 5) (by omega) hC rfl (by unfold wcd; omega) ?_
  simp only [wk1, bI_0]
  intro _
  by_cases q6 : kk K p = 5
  · rw [decide_eq_true q6, if_pos (by decide)]
    exact ⟨by decide, tt (by rw [q6]; rfl)⟩
  rw [decide_eq_false q6, if_neg (by decide)]
  refine c_is (c := 35) (v := 35) (by omega) hC rfl (by unfold wcd; omega) ?_
  simp only [wk1, bI_0]
  intro _
  by_cases q7 : kk K p = 35
  · rw [decide_eq_true q7, if_pos (by decide)]
    exact ⟨by decide, tt (by rw [q7]; rfl)⟩
  rw [decide_eq_false q7, if_neg (by decide)]
  refine c_is (c := 22) (v := 22) (by omega) hC rfl (by unfold wcd; omega) ?_
  simp only [wk1, bI_0]
  intro _
  by_cases q8 : kk K p = 22
  · rw [decide_eq_true q8, if_pos (by decide)]
    exact ⟨by decide, tt (by rw [q8]; rfl)⟩
  rw [decide_eq_false q8, if_neg (by decide)]
  refine c_is (c := 1) (v := 1) (by omega) hC rfl (by unfold wcd; omega) ?_
  simp only [wk1, bI_0]
  intro _
  by_cases q9 : kk K p = 1
  · rw [decide_eq_true q9, if_neg (by decide)]
    exact ⟨by decide, tt (by rw [q9]; rfl)⟩
  rw [decide_eq_false q9, if_pos rfl]
  refine ⟨by decide, ff ?_⟩
  unfold bAc
  simp only [Bool.or_eq_false_iff, decide_eq_false_iff_not]
  omega
theorem c_beginsDeclaration (hL : 100 ≤ L) (hC : CA E w K ns sm p) (h : Q (.inl (some (.int (bI (bDe (kk K p)))))) w) : zw E L kt_M164 [.ref (w_adr E.2.1 4 0)] w Q := by
  have hp := hC.lt
  have hA := hC.1.1.1
  have hty := hC.ty
  have hk := hC.kkc
  obtain ⟨l2, l3, l4, l5, l6⟩ := hC.1.1.2.1
  have hpos := hC.2.1
  have tt : bDe (kk K p) = true → Q (.inl (some (.int 1))) w := fun e => by rw [e] at h; exact h
  have ff : bDe (kk K p) = false → Q (.inl (some (.int 0))) w := fun e => by rw [e] at h; exact h
  refine zt_X5_beginsDeclaration_p0 (by omega) ?_
  simp only [zb_X5_beginsDeclaration_p0, zb_X5_beginsDeclaration_p61, zb_X5_beginsDeclaration_p66]
  refine c_isType (by omega) hC ?_
  simp only [wk1, bI_0]
  intro _
  cases hb : bTy (kk K p) with
  | true =>
    rw [if_pos (by decide)]
    exact ⟨by decide, tt (by unfold bDe; rw [hb]; rfl)⟩
  | false =>
    rw [if_neg (by decide)]
    refine c_is (c := 6) (v := 6) (by omega) hC rfl (by unfold wcd; omega) ?_
    simp only [wk1, bI_0]
    intro _
    by_cases q1 : kk K p = 6
    · rw [decide_eq_true q1, if_pos (by decide)]
      exact ⟨by decide, tt (by rw [q1]; rfl)⟩
    rw [decide_eq_false q1, if_neg (by decide)]
    refine c_is (c := 30) (v := 30) (by omega) hC rfl (by unfold wcd; omega) ?_
    simp only [wk1, bI_0]
    intro _
    by_cases q2 : kk K p = 30
    · rw [decide_eq_true q2, if_pos (by decide)]
      exact ⟨by decide, tt (by rw [q2]; rfl)⟩
    rw [decide_eq_false q2, if_neg (by decide)]
    refine c_is (c := 33) (v := 33) (by omega) hC rfl (by unfold wcd; omega) ?_
    simp only [wk1, bI_0]
    intro _
    by_cases q3 : kk K p = 33
    · rw [decide_eq_true q3, if_pos (by decide)]
      exact ⟨by decide, tt (by rw [q3]; rfl)⟩
    rw [decide_eq_false q3, if_neg (by decide)]
    refine c_is (c := 24) (v := 24) (by omega) hC rfl (by unfold wcd; omega) ?_
    simp only [wk1, bI_0]
    intro _
    by_cases q4 : kk K p = 24
    · rw [decide_eq_true q4, if_pos (by decide)]
      exact ⟨by decide, tt (by rw [q4]; rfl)⟩
    rw [decide_eq_false q4, if_neg (by decide)]
    refine c_is (c := 23) (v := 23) (by omega) hC rfl (by unfold wcd; omega) ?_
    simp only [wk1, bI_0]
    intro _
    by_cases q5 : kk K p = 23
    · rw [decide_eq_true q5, if_pos (by decide)]
      exact ⟨by decide, tt (by rw [q5]; rfl)⟩
    rw [decide_eq_false q5, if_neg (by decide)]
    refine c_is (c := 38) (v := 42) (by omega) hC rfl (by unfold wcd; omega) ?_
    simp only [wk1, bI_0]
    intro _
    by_cases q9 : kk K p = 42
    · rw [decide_eq_true q9, if_neg (by decide)]
      exact ⟨by decide, tt (by rw [q9]; rfl)⟩
    rw [decide_eq_false q9, if_pos rfl]
    refine ⟨by decide, ff ?_⟩
    unfold bDe
    rw [hb]
    simp only [Bool.or_eq_false_iff, decide_eq_false_iff_not, eq_self, true_and, and_true]
    omega
end PRD
