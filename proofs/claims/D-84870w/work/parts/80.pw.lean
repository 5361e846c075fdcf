/-! ===== TWO RUNS SIDE BY SIDE ===== -/
/-- a run, given by what it does with any end: it ends so (or the start was none) -/
def eW (w : wS) (g : (kx_Rs → wS → Prop) → Prop) (P : kx_Rs → wS → Prop) : Prop := (∀ Q, g Q) ∨ ∃ r w', wle w w' ∧ (∀ Q : kx_Rs → wS → Prop, Q r w' → g Q) ∧ P r w'
/-- two runs -/
def PW (w t : wS) (gc gt : (kx_Rs → wS → Prop) → Prop) (Φ : kx_Rs → wS → kx_Rs → wS → Prop) : Prop := (∀ Q, gc Q) ∨ (∀ Q, gt Q) ∨ ∃ r w' r' t', wle w w' ∧ wle t t' ∧ (∀ Q : kx_Rs → wS → Prop, Q r w' → gc Q) ∧ (∀ Q : kx_Rs → wS → Prop, Q r' t' → gt Q) ∧ Φ r w' r' t'
/-- two runs on their way -/
def PS (gc gt : (kx_Rs → wS → Prop) → Prop) (Φ : kx_Rs → wS → kx_Rs → wS → Prop) : Prop := (∀ Q, gc Q) ∨ (∀ Q, gt Q) ∨ ∃ r w' r' t', (∀ Q : kx_Rs → wS → Prop, Q r w' → gc Q) ∧ (∀ Q : kx_Rs → wS → Prop, Q r' t' → gt Q) ∧ Φ r w' r' t'
/-- one run on its way -/
def eS (g : (kx_Rs → wS → Prop) → Prop) (P : kx_Rs → wS → Prop) : Prop := (∀ Q, g Q) ∨ ∃ r w', (∀ Q : kx_Rs → wS → Prop, Q r w' → g Q) ∧ P r w'
theorem zw_le {E : zE} {L : Nat} {M : kx_M} {As : List Value} {w : wS} {Q : kx_Rs → wS → Prop} (h : zw E L M As w (fun r w' => wle w w' → Q r w')) : zw E L M As w Q := kz_mono h (fun r w' hl hq => hq hl)
section PSR
variable {gc gt : (kx_Rs → wS → Prop) → Prop} {Φ : kx_Rs → wS → kx_Rs → wS → Prop} {E E' : zE} {L L' : Nat} {M M' : kx_M} {As As' : List Value} {w t : wS}
theorem PS_ret {r r' : kx_Rs} {w t : wS} (h : Φ r w r' t) : PS (fun Q => Q r w) (fun Q => Q r' t) Φ := .inr (.inr ⟨r, w, r', t, fun _ h => h, fun _ h => h, h⟩)
theorem PS_mono {Φ' : kx_Rs → wS → kx_Rs → wS → Prop} (h : PS gc gt Φ') (k : ∀ r w r' t, Φ' r w r' t → Φ r w r' t) : PS gc gt Φ := h.elim .inl (fun h => h.elim (fun h => .inr (.inl h)) (fun ⟨r, w, r', t, a, b, c⟩ => .inr (.inr ⟨r, w, r', t, a, b, k _ _ _ _ c⟩)))
theorem PS_l {gc' : (kx_Rs → wS → Prop) → Prop} (k : ∀ Q, gc' Q → gc Q) (h : PS gc' gt Φ) : PS gc gt Φ := h.elim (fun h => .inl (fun Q => k Q (h Q))) (fun h => h.elim (fun h => .inr (.inl h)) (fun ⟨r, w, r', t, a, b, c⟩ => .inr (.inr ⟨r, w, r', t, fun Q hq => k Q (a Q hq), b, c⟩)))
theorem PS_r {gt' : (kx_Rs → wS → Prop) → Prop} (k : ∀ Q, gt' Q → gt Q) (h : PS gc gt' Φ) : PS gc gt Φ := h.elim .inl (fun h => h.elim (fun h => .inr (.inl (fun Q => k Q (h Q)))) (fun ⟨r, w, r', t, a, b, c⟩ => .inr (.inr ⟨r, w, r', t, a, fun Q hq => k Q (b Q hq), c⟩)))
theorem PS_lif {c : Prop} [Decidable c] {A B : (kx_Rs → wS → Prop) → Prop} (h1 : c → PS A gt Φ) (h2 : ¬ c → PS B gt Φ) : PS (fun Q => if c then A Q else B Q) gt Φ := by
  by_cases h : c
  · simp only [if_pos h]
    exact h1 h
  · simp only [if_neg h]
    exact h2 h
theorem PS_rif {c : Prop} [Decidable c] {A B : (kx_Rs → wS → Prop) → Prop} (h1 : c → PS gc A Φ) (h2 : ¬ c → PS gc B Φ) : PS gc (fun Q => if c then A Q else B Q) Φ := by
  by_cases h : c
  · simp only [if_pos h]
    exact h1 h
  · simp only [if_neg h]
    exact h2 h
theorem PS_land {p : Prop} {A : (kx_Rs → wS → Prop) → Prop} (hp : p) (h : PS A gt Φ) : PS (fun Q => p ∧ A Q) gt Φ := PS_l (fun _ a => ⟨hp, a⟩) h
theorem PS_rand {p : Prop} {A : (kx_Rs → wS → Prop) → Prop} (hp : p) (h : PS gc A Φ) : PS gc (fun Q => p ∧ A Q) Φ := PS_r (fun _ a => ⟨hp, a⟩) h
theorem PS_lex {α : Type} {p : α → Prop} {A : α → (kx_Rs → wS → Prop) → Prop} (a : α) (hp : p a) (h : PS (A a) gt Φ) : PS (fun Q => ∃ x, p x ∧ A x Q) gt Φ := PS_l (fun _ b => ⟨a, hp, b⟩) h
theorem PS_rex {α : Type} {p : α → Prop} {A : α → (kx_Rs → wS → Prop) → Prop} (a : α) (hp : p a) (h : PS gc (A a) Φ) : PS gc (fun Q => ∃ x, p x ∧ A x Q) Φ := PS_r (fun _ b => ⟨a, hp, b⟩) h
/-- a call on one side whose end is known -/
theorem PS_lc {Kc : (kx_Rs → wS → Prop) → kx_Rs → wS → Prop} {r : kx_Rs} {w2 : wS} (h : ∀ Q : kx_Rs → wS → Prop, Q r w2 → zw E L M As w Q) (k : wle w w2 → PS (fun Q => Kc Q r w2) gt Φ) : PS (fun Q => zw E L M As w (Kc Q)) gt Φ := by
  by_cases hl : wle w w2
  · exact PS_l (fun Q q => h _ q) (k hl)
  · exact .inl (fun Q => zw_le (h _ (fun q => absurd q hl)))
theorem PS_rc {Kt : (kx_Rs → wS → Prop) → kx_Rs → wS → Prop} {r : kx_Rs} {t2 : wS} (h : ∀ Q : kx_Rs → wS → Prop, Q r t2 → zw E L M As t Q) (k : wle t t2 → PS gc (fun Q => Kt Q r t2) Φ) : PS gc (fun Q => zw E L M As t (Kt Q)) Φ := by
  by_cases hl : wle t t2
  · exact PS_r (fun Q q => h _ q) (k hl)
  · exact .inr (.inl (fun Q => zw_le (h _ (fun q => absurd q hl))))
theorem PS_lce {Kc : (kx_Rs → wS → Prop) → kx_Rs → wS → Prop} {P : kx_Rs → wS → Prop} (h : eW w (fun Q => zw E L M As w Q) P) (k : ∀ r w2, wle w w2 → P r w2 → PS (fun Q => Kc Q r w2) gt Φ) : PS (fun Q => zw E L M As w (Kc Q)) gt Φ := by
  rcases h with h | ⟨r, w2, hl, a, b⟩
  · exact .inl (fun Q => h _)
  · exact PS_l (fun Q q => a _ q) (k r w2 hl b)
theorem PS_rce {Kt : (kx_Rs → wS → Prop) → kx_Rs → wS → Prop} {P : kx_Rs → wS → Prop} (h : eW t (fun Q => zw E L M As t Q) P) (k : ∀ r t2, wle t t2 → P r t2 → PS gc (fun Q => Kt Q r t2) Φ) : PS gc (fun Q => zw E L M As t (Kt Q)) Φ := by
  rcases h with h | ⟨r, w2, hl, a, b⟩
  · exact .inr (.inl (fun Q => h _))
  · exact PS_r (fun Q q => a _ q) (k r w2 hl b)
/-- a call on both sides -/
theorem PS_c {Kc Kt : (kx_Rs → wS → Prop) → kx_Rs → wS → Prop} {Φ1 : kx_Rs → wS → kx_Rs → wS → Prop} (h : PW w t (fun Q => zw E L M As w Q) (fun Q => zw E' L' M' As' t Q) Φ1) (k : ∀ r w2 r' t2, wle w w2 → wle t t2 → Φ1 r w2 r' t2 → PS (fun Q => Kc Q r w2) (fun Q => Kt Q r' t2) Φ) : PS (fun Q => zw E L M As w (Kc Q)) (fun Q => zw E' L' M' As' t (Kt Q)) Φ := by
  rcases h with h | h | ⟨r, w2, r', t2, h1, h2, a, b, c⟩
  · exact .inl (fun Q => h _)
  · exact .inr (.inl (fun Q => h _))
  · exact PS_l (fun Q q => a _ q) (PS_r (fun Q q => b _ q) (k r w2 r' t2 h1 h2 c))
/-- two methods from their entries -/
theorem PW_of {A B : (kx_Rs → wS → Prop) → Prop} (ha : ∀ Q, A Q → zw E L M As w Q) (hb : ∀ Q, B Q → zw E' L' M' As' t Q) (h : PS A B (fun r w' r' t' => wle w w' → wle t t' → Φ r w' r' t')) : PW w t (fun Q => zw E L M As w Q) (fun Q => zw E' L' M' As' t Q) Φ := by
  rcases h with h | h | ⟨r, w2, r', t2, a, b, c⟩
  · exact .inl (fun Q => ha _ (h _))
  · exact .inr (.inl (fun Q => hb _ (h _)))
  · by_cases h1 : wle w w2
    · by_cases h2 : wle t t2
      · exact .inr (.inr ⟨r, w2, r', t2, h1, h2, fun Q q => ha _ (a _ q), fun Q q => hb _ (b _ q), c h1 h2⟩)
      · exact .inr (.inl (fun Q => zw_le (hb _ (b _ (fun q => absurd q h2)))))
    · exact .inl (fun Q => zw_le (ha _ (a _ (fun q => absurd q h1))))
theorem PW_mono {Φ' : kx_Rs → wS → kx_Rs → wS → Prop} (h : PW w t gc gt Φ') (k : ∀ r w' r' t', wle w w' → wle t t' → Φ' r w' r' t' → Φ r w' r' t') : PW w t gc gt Φ := h.elim .inl (fun h => h.elim (fun h => .inr (.inl h)) (fun ⟨r, w, r', t, a1, a2, a, b, c⟩ => .inr (.inr ⟨r, w, r', t, a1, a2, a, b, k _ _ _ _ a1 a2 c⟩)))
theorem PS_of {A B : (kx_Rs → wS → Prop) → Prop} (ha : ∀ Q, A Q → gc Q) (hb : ∀ Q, B Q → gt Q) (h : PS A B Φ) : PS gc gt Φ := PS_l ha (PS_r hb h)
theorem eW_of {P : kx_Rs → wS → Prop} {A : (kx_Rs → wS → Prop) → Prop} (ha : ∀ Q, A Q → zw E L M As w Q) (h : eS A (fun r w' => wle w w' → P r w')) : eW w (fun Q => zw E L M As w Q) P := by
  rcases h with h | ⟨r, w2, a, c⟩
  · exact .inl (fun Q => ha _ (h _))
  · by_cases h1 : wle w w2
    · exact .inr ⟨r, w2, h1, fun Q q => ha _ (a _ q), c h1⟩
    · exact .inl (fun Q => zw_le (ha _ (a _ (fun q => absurd q h1))))
theorem eW_known {P : kx_Rs → wS → Prop} {r : kx_Rs} {w2 : wS} (h : ∀ Q : kx_Rs → wS → Prop, Q r w2 → zw E L M As w Q) (hp : wle w w2 → P r w2) : eW w (fun Q => zw E L M As w Q) P := eW_of (A := fun Q => Q r w2) (fun Q q => h Q q) (.inr ⟨r, w2, fun _ h => h, hp⟩)
end PSR
section ESR
variable {g : (kx_Rs → wS → Prop) → Prop} {P : kx_Rs → wS → Prop} {E : zE} {L : Nat} {M : kx_M} {As : List Value} {w : wS}
theorem eS_ret {r : kx_Rs} {w : wS} (h : P r w) : eS (fun Q => Q r w) P := .inr ⟨r, w, fun _ h => h, h⟩
theorem eS_l {g' : (kx_Rs → wS → Prop) → Prop} (k : ∀ Q, g' Q → g Q) (h : eS g' P) : eS g P := h.elim (fun h => .inl (fun Q => k Q (h Q))) (fun ⟨r, w, a, c⟩ => .inr ⟨r, w, fun Q hq => k Q (a Q hq), c⟩)
theorem eS_if {c : Prop} [Decidable c] {A B : (kx_Rs → wS → Prop) → Prop} (h1 : c → eS A P) (h2 : ¬ c → eS B P) : eS (fun Q => if c then A Q else B Q) P := by
  by_cases h : c
  · simp only [if_pos h]
    exact h1 h
  · simp only [if_neg h]
    exact h2 h
theorem eS_and {p : Prop} {A : (kx_Rs → wS → Prop) → Prop} (hp : p) (h : eS A P) : eS (fun Q => p ∧ A Q) P := eS_l (fun _ a => ⟨hp, a⟩) h
theorem eS_ex {α : Type} {p : α → Prop} {A : α → (kx_Rs → wS → Prop) → Prop} (a : α) (hp : p a) (h : eS (A a) P) : eS (fun Q => ∃ x, p x ∧ A x Q) P := eS_l (fun _ b => ⟨a, hp, b⟩) h
theorem eS_c {Kc : (kx_Rs → wS → Prop) → kx_Rs → wS → Prop} {r : kx_Rs} {w2 : wS} (h : ∀ Q : kx_Rs → wS → Prop, Q r w2 → zw E L M As w Q) (k : wle w w2 → eS (fun Q => Kc Q r w2) P) : eS (fun Q => zw E L M As w (Kc Q)) P := by
  by_cases hl : wle w w2
  · exact eS_l (fun Q q => h _ q) (k hl)
  · exact .inl (fun Q => zw_le (h _ (fun q => absurd q hl)))
theorem eS_ce {Kc : (kx_Rs → wS → Prop) → kx_Rs → wS → Prop} {P1 : kx_Rs → wS → Prop} (h : eW w (fun Q => zw E L M As w Q) P1) (k : ∀ r w2, wle w w2 → P1 r w2 → eS (fun Q => Kc Q r w2) P) : eS (fun Q => zw E L M As w (Kc Q)) P := by
  rcases h with h | ⟨r, w2, hl, a, b⟩
  · exact .inl (fun Q => h _)
  · exact eS_l (fun Q q => a _ q) (k r w2 hl b)
theorem eS_mono {P' : kx_Rs → wS → Prop} (h : eS g P') (k : ∀ r w, P' r w → P r w) : eS g P := h.elim .inl (fun ⟨r, w, a, c⟩ => .inr ⟨r, w, a, k _ _ c⟩)
end ESR
