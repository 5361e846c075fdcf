/-! ===== TOKENS: what the parsers ask of them ===== -/
/-- up to the first bad token -/
def cutb : pK → pK
  | [] => []
  | x :: r => if x.1 = tBad then [x] else x :: cutb r
def okx (x : Tk × Nat × Int) : Prop := (0 ≤ kd3 x.1 ∧ kd3 x.1 ≤ 76 ∧ (kd3 x.1 = 74 → x.2.2 = -1)) ∧ x.1.1 < 9 ∧ x.2.2 ≤ 1300 ∧ -1 ≤ x.2.2
def lkx : Option (Int × Nat) → Tk × Nat × Int → Prop
  | none, x => kd3 x.1 = 75 ∨ 0 ≤ x.2.2
  | some kl, x => (kl.1 = 74 → kd3 x.1 = 75 ∨ 0 ≤ x.2.2) ∧ (kl.1 ≠ 74 → x.2.1 = kl.2)
def OKc : Option (Int × Nat) → pK → Prop
  | _, [] => False
  | st, x :: r => okx x ∧ lkx st x ∧ ((r = [] ∧ (kd3 x.1 = 75 ∨ kd3 x.1 = 76)) ∨ ((kd3 x.1 ≠ 75 ∧ kd3 x.1 ≠ 76) ∧ OKc (some (kd3 x.1, x.2.1)) r))
theorem okx_mk {t : Tk} {ln : Nat} {b : Int} (h1 : 0 ≤ kd3 t ∧ kd3 t ≤ 76) (h2 : t.1 < 9) (h3 : b ≤ 1300 ∧ -1 ≤ b) (h4 : kd3 t = 74 → b = -1) : okx (t, ln, b) := ⟨⟨h1.1, h1.2, h4⟩, h2, h3.1, h3.2⟩
theorem OKc.at : ∀ {K : pK} {st : Option (Int × Nat)}, OKc st K → ∀ p, p < K.length → okx (kA K p) ∧ (p + 1 < K.length → kk K p ≠ 75 ∧ kk K p ≠ 76) ∧ (p + 1 = K.length → kk K p = 75 ∨ kk K p = 76) ∧ (p = 0 → lkx st (kA K p)) ∧ ∀ q, p = q + 1 → lkx (some (kk K q, kln K q)) (kA K p)
  | [], _, h, _, _ => h.elim
  | x :: r, st, h, 0, _ => by
    obtain ⟨h1, h2, h3⟩ := h
    refine ⟨h1, fun hl => ?_, fun hl => ?_, fun _ => h2, fun q hq => by omega⟩
    · rcases h3 with ⟨e, -⟩ | ⟨h3, -⟩
      · subst e
        simp at hl
      · exact h3
    · rcases h3 with ⟨-, h3⟩ | ⟨-, h3⟩
      · exact h3
      · have : r = [] := by
          cases r with
          | nil => rfl
          | cons y r => simp at hl
        subst this
        exact h3.elim
  | x :: r, st, h, p + 1, hp => by
    obtain ⟨h1, h2, h3⟩ := h
    have hp' : p < r.length := by simpa using hp
    rcases h3 with ⟨e, -⟩ | ⟨h3, h4⟩
    · subst e
      simp at hp'
    · obtain ⟨a1, a2, a3, a4, a5⟩ := OKc.at h4 p hp'
      refine ⟨a1, fun hl => a2 (by simpa using hl), fun hl => a3 (by simpa using hl), fun e => by omega, fun q hq => ?_⟩
      have hq' : p = q := by omega
      subst hq'
      cases p with
      | zero => exact a4 rfl
      | succ p => exact a5 p rfl
theorem OKc.ok {K : pK} (h : OKc none K) (hl : K.length ≤ 2600) : KOK K ∧ KRG K := by
  have h0 : 0 < K.length := by
    cases K with
    | nil => exact h.elim
    | cons x r => simp
  refine ⟨⟨⟨h0, hl⟩, fun k hk => (h.at k (by omega)).2.1 hk, (h.at (K.length - 1) (by omega)).2.2.1 (by omega), fun k hk hs => ?_, fun k hk => (h.at k hk).1.2⟩, fun k hk => (h.at k hk).1.1, fun k hk h74 => ?_⟩
  · cases k with
    | zero => exact (h.at 0 hk).2.2.2.1 rfl
    | succ k =>
      rcases hs with hs | hs
      · omega
      · exact ((h.at (k + 1) hk).2.2.2.2 k rfl).1 hs
  · exact ((h.at (k + 1) hk).2.2.2.2 k rfl).2 h74
theorem tkl_all {T : Nat → Int} {n e : Nat} : ∀ k p, ∀ t ∈ tkl T n e k p, t = tBad ∨ ((0 ≤ kd3 t ∧ kd3 t < 74) ∧ t.1 < 7) := by
  intro k
  induction k with
  | zero =>
    intro p t ht
    exact absurd ht List.not_mem_nil
  | succ k ih =>
    intro p t ht
    unfold tkl at ht
    split at ht
    · exact absurd ht List.not_mem_nil
    split at ht
    · exact ih _ t ht
    split at ht
    · exact absurd ht List.not_mem_nil
    split at ht
    · exact .inl (by simpa using ht)
    · rename_i hb
      rcases List.mem_cons.mp ht with e | e
      · subst e
        exact .inr ⟨(tk1_kd.resolve_left hb), tk1_7⟩
      · exact ih _ t e
theorem tkl_len {T : Nat → Int} {n e : Nat} (h10 : T e = 10) (he : e ≤ n) : ∀ k p, p ≤ e → (tkl T n e k p).length ≤ e - p := by
  intro k
  induction k with
  | zero =>
    intro p hp
    exact Nat.zero_le _
  | succ k ih =>
    intro p hp
    unfold tkl
    split
    · exact Nat.zero_le _
    rename_i h1
    split
    · have := ih (p + 1) (by omega)
      omega
    split
    · exact Nat.zero_le _
    split
    · show 1 ≤ _
      omega
    · rename_i hb
      have h2 := tk1_end h10 he (by omega) hb
      have := ih (tk1 T n p).2 h2.2
      simp only [List.length_cons]
      omega
theorem cutb_len : ∀ K : pK, (cutb K).length ≤ K.length
  | [] => Nat.le_refl _
  | x :: r => by
    have := cutb_len r
    unfold cutb
    split
    · simp
    · simp only [List.length_cons]
      omega
theorem OKc_rest {ln : Nat} {R : pK} (hR : ∀ st : Option (Int × Nat), (st = none ∨ ∃ l, st = some (74, l)) → OKc st (cutb R)) : ∀ (ts : List Tk) (k : Int), k ≠ 74 → (∀ t ∈ ts, t = tBad ∨ ((0 ≤ kd3 t ∧ kd3 t < 74) ∧ t.1 < 7)) → OKc (some (k, ln)) (cutb ((ts.map (fun t => (t, ln, -1)) ++ [(tLin, ln, -1)]) ++ R)) := by
  intro ts
  induction ts with
  | nil =>
    intro k hk _
    show OKc _ (if tLin = tBad then _ else (tLin, ln, -1) :: cutb R)
    rw [if_neg (by decide)]
    exact ⟨okx_mk (t := tLin) (by decide) (by decide) (by decide) (fun _ => rfl), ⟨fun e => absurd e hk, fun _ => rfl⟩, .inr ⟨⟨show kd3 tLin ≠ 75 by decide, show kd3 tLin ≠ 76 by decide⟩, hR _ (.inr ⟨ln, rfl⟩)⟩⟩
  | cons t ts ih =>
    intro k hk hts
    show OKc _ (if t = tBad then [(t, ln, -1)] else (t, ln, -1) :: cutb ((ts.map (fun t => (t, ln, -1)) ++ [(tLin, ln, -1)]) ++ R))
    by_cases e : t = tBad
    · rw [if_pos e]
      subst e
      exact ⟨okx_mk (t := tBad) (by decide) (by decide) (by decide) (fun e => absurd e (by decide)), ⟨fun e => absurd e hk, fun _ => rfl⟩, .inl ⟨rfl, .inr rfl⟩⟩
    · rw [if_neg e]
      obtain ⟨h1, h2⟩ := (hts t List.mem_cons_self).resolve_left e
      refine ⟨okx_mk ⟨h1.1, by omega⟩ (by omega) (by decide) (fun e => by omega), ⟨fun e => absurd e hk, fun _ => rfl⟩, .inr ⟨⟨by show kd3 t ≠ 75; omega, by show kd3 t ≠ 76; omega⟩, ?_⟩⟩
      exact ih (kd3 t) (by omega) (fun t' ht' => hts t' (List.mem_cons_of_mem _ ht'))
theorem nl10 {T : Nat → Int} {n s : Nat} (hT : ∀ k, n ≤ k → T k = 10) : T (nd nNL T n s) = 10 := by
  have := nd_at (p := nNL) (T := T) (n := n) (fun k hk => by unfold nNL; rw [hT k hk]; rfl) (a := s) rfl
  have h' : decide (T (nd nNL T n s) ≠ 10) = false := this
  simpa using h'
theorem tks_ok {T : Nat → Int} {n : Nat} (hn : n ≤ 1280) (hT : ∀ k, n ≤ k → T k = 10) : ∀ k s ln, n + 1 - s < k → s ≤ n + 1 → (∀ st : Option (Int × Nat), (st = none ∨ ∃ l, st = some (74, l)) → OKc st (cutb (tks T n k s ln))) ∧ (tks T n k s ln).length ≤ 2 * (n + 1 - s) + 1 := by
  intro k
  induction k with
  | zero =>
    intro s ln h
    omega
  | succ k ih =>
    intro s ln hk hs
    unfold tks
    by_cases h : n ≤ s
    · rw [if_pos h]
      refine ⟨fun st hst => ?_, by simp⟩
      show OKc st (if tFin = tBad then _ else (tFin, ln, -1) :: cutb [])
      rw [if_neg (by decide)]
      refine ⟨okx_mk (t := tFin) (by decide) (by decide) (by decide) (fun e => absurd e (by decide)), ?_, .inl ⟨rfl, .inl rfl⟩⟩
      rcases hst with e | ⟨l, e⟩
      · subst e
        exact .inl rfl
      · subst e
        exact ⟨fun _ => .inl rfl, fun e => absurd rfl e⟩
    · rw [if_neg h]
      have h1 : s ≤ nd nNL T n s := nd_ge rfl
      have h2 : nd nNL T n s ≤ n := nd_le rfl (by omega)
      have h10 : T (nd nNL T n s) = 10 := nl10 hT
      have h3 : s ≤ nd isB T n s := nd_ge rfl
      have h4 : nd isB T n s ≤ nd nNL T n s := nd_le_e (by decide) h10 h2 rfl h1
      have hlen := tkl_len h10 h2 (n + 1) (nd isB T n s) h4
      have hall := tkl_all (T := T) (n := n) (e := nd nNL T n s) (n + 1) (nd isB T n s)
      obtain ⟨i1, i2⟩ := ih (nd nNL T n s + 1) (if n ≤ nd nNL T n s then ln else ln + 1) (by omega) (by omega)
      revert hlen hall
      generalize tkl T n (nd nNL T n s) (n + 1) (nd isB T n s) = l
      intro hlen hall
      cases l with
      | nil => exact ⟨fun st hst => i1 st hst, by show (tks T n k _ _).length ≤ _; omega⟩
      | cons t ts =>
        refine ⟨fun st hst => ?_, ?_⟩
        · show OKc st (if t = tBad then [(t, ln, _)] else (t, ln, _) :: cutb ((ts.map (fun t => (t, ln, -1)) ++ [(tLin, ln, -1)]) ++ tks T n k _ _))
          have hlk : lkx st (t, ln, ((nd isB T n s - s : Nat) : Int)) := by
            rcases hst with e | ⟨l, e⟩
            · subst e
              exact .inr (by show (0 : Int) ≤ ((nd isB T n s - s : Nat) : Int); omega)
            · subst e
              exact ⟨fun _ => .inr (by show (0 : Int) ≤ ((nd isB T n s - s : Nat) : Int); omega), fun e => absurd rfl e⟩
          by_cases e : t = tBad
          · rw [if_pos e]
            subst e
            exact ⟨okx_mk (t := tBad) (by decide) (by decide) ⟨by omega, by omega⟩ (fun e => absurd e (by decide)), hlk, .inl ⟨rfl, .inr rfl⟩⟩
          · rw [if_neg e]
            obtain ⟨a1, a2⟩ := (hall t List.mem_cons_self).resolve_left e
            refine ⟨okx_mk ⟨a1.1, by omega⟩ (by omega) ⟨by omega, by omega⟩ (fun e => by omega), hlk, .inr ⟨⟨by show kd3 t ≠ 75; omega, by show kd3 t ≠ 76; omega⟩, ?_⟩⟩
            exact OKc_rest i1 ts (kd3 t) (by omega) (fun t' ht' => hall t' (List.mem_cons_of_mem _ ht'))
        · unfold mark
          simp only [List.length_append, List.length_cons, List.length_map, List.length_nil] at hlen ⊢
          omega
/-- the tokens of a text, up to the first bad one -/
theorem tks_KOK {T : Nat → Int} {n : Nat} (hn : n ≤ 1280) (hT : ∀ k, n ≤ k → T k = 10) : KOK (cutb (tks T n (n + 2) 0 1)) ∧ KRG (cutb (tks T n (n + 2) 0 1)) := by
  obtain ⟨h1, h2⟩ := tks_ok hn hT (n + 2) 0 1 (by omega) (by omega)
  have h3 := cutb_len (tks T n (n + 2) 0 1)
  exact (h1 none (.inl rfl)).ok (by omega)
theorem cutb_no : ∀ {K : pK}, (∀ t ∈ K, t.1 ≠ tBad) → cutb K = K
  | [], _ => rfl
  | x :: r, h => by
    unfold cutb
    rw [if_neg (h x List.mem_cons_self), cutb_no (fun t ht => h t (List.mem_cons_of_mem _ ht))]
theorem cutb_app {x : Tk × Nat × Int} {R : pK} (hx : x.1 = tBad) : ∀ {A : pK}, (∀ t ∈ A, t.1 ≠ tBad) → cutb (A ++ x :: R) = A ++ [x]
  | [], _ => by
    show (if x.1 = tBad then [x] else _) = [x]
    rw [if_pos hx]
  | a :: A, h => by
    show (if a.1 = tBad then [a] else a :: cutb (A ++ x :: R)) = a :: (A ++ [x])
    rw [if_neg (h a List.mem_cons_self), cutb_app hx (fun t ht => h t (List.mem_cons_of_mem _ ht))]
/-- the twin has at least these -/
theorem TE3.pre {F K : pK} {P : Prop} (h : TE3 F K ((∀ t ∈ K, t.1 ≠ tBad) ∧ P)) : cutb F <+: K := by
  rcases h with ⟨e, h, -⟩ | ⟨A, ln, b, R, e, h1, h2⟩
  · subst e
    rw [cutb_no h]
    exact List.prefix_refl _
  · subst e
    rw [cutb_app rfl h1]
    exact h2
theorem cutb_pre : ∀ {K : pK}, cutb K <+: K
  | [] => List.prefix_refl _
  | x :: r => by
    unfold cutb
    split
    · exact ⟨r, rfl⟩
    · obtain ⟨t, e⟩ := cutb_pre (K := r)
      exact ⟨t, by rw [List.cons_append, e]⟩
