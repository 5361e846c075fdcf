/-! ===== TOKENS, part 10: what the tokens of a text are ===== -/
/-- a token: its sort, a number, its bytes. Sorts: 0 word, 1 name, 2 number, 3 string, 4 character, 5 sign, 6 bad, 7 line, 8 end -/
abbrev Tk := Nat × Int × List Int
def tkW (s : List Int) : Tk := match (wds.take 36).idxOf? s with
  | some c => (0, c, [])
  | none => (1, 0, s)
def tBad : Tk := (6, 0, [])
def tkS : List Int × Option Nat → Nat → Tk × Nat
  | (l, some q), p => if l ≠ [] ∧ l.length ≤ 60 then ((3, 0, l), q + 1) else (tBad, p)
  | (_, none), p => (tBad, p)
def tkC (T : Nat → Int) : Option (Int × Nat) → Nat → Tk × Nat
  | some (v, q), p => if T q = 39 then ((4, v, []), q + 1) else (tBad, p)
  | none, p => (tBad, p)
/-- one token -/
def tk1 (T : Nat → Int) (n p : Nat) : Tk × Nat :=
  if isL (T p) = true then (if 16 < nd isN T n p - p then (tBad, p) else (tkW (seg T p (nd isN T n p)), nd isN T n p))
  else if isD (T p) = true then (if 10 < nd isD T n p - p ∨ 2147483647 < dvl T p (nd isD T n p - p) ∨ isN (T (nd isD T n p)) = true then (tBad, p) else ((2, dvl T p (nd isD T n p - p), []), nd isD T n p))
  else if T p = 35 then (if nd isH T n (p + 1) < p + 2 ∨ p + 9 < nd isH T n (p + 1) ∨ isN (T (nd isH T n (p + 1))) = true then (tBad, p) else ((2, (hvl T (p + 1) (nd isH T n (p + 1) - (p + 1))).toInt, []), nd isH T n (p + 1)))
  else if T p = 34 then tkS (strf T (n + 1) (p + 1)) p
  else if T p = 39 then tkC T (sg T (p + 1)) p
  else if (sgk T p).1 = -1 then (tBad, p) else ((5, (sgk T p).1, []), (sgk T p).2)
/-- the tokens of a line's rest -/
def tkl (T : Nat → Int) (n e : Nat) : Nat → Nat → List Tk
  | 0, _ => []
  | k + 1, p => if e ≤ p then [] else if T p = 32 then tkl T n e k (p + 1) else if T p = 45 ∧ T (p + 1) = 45 then [] else if (tk1 T n p).1 = tBad then [tBad] else (tk1 T n p).1 :: tkl T n e k (tk1 T n p).2
def tLin : Tk := (7, 0, [])
def tFin : Tk := (8, 0, [])
/-- the tokens of a line with its number and blanks -/
def mark (ln : Nat) (b : Int) : List Tk → List (Tk × Nat × Int)
  | [] => []
  | t :: ts => (t, ln, b) :: (ts.map (fun t => (t, ln, -1)) ++ [(tLin, ln, -1)])
def isB (c : Int) : Bool := decide (c = 32)
def nNL (c : Int) : Bool := decide (c ≠ 10)
/-- all tokens of a text -/
def tks (T : Nat → Int) (n : Nat) : Nat → Nat → Nat → List (Tk × Nat × Int)
  | 0, _, _ => []
  | k + 1, s, ln => if n ≤ s then [(tFin, ln, -1)] else mark ln (nd isB T n s - s : Nat) (tkl T n (nd nNL T n s) (n + 1) (nd isB T n s)) ++ tks T n k (nd nNL T n s + 1) (if n ≤ nd nNL T n s then ln else ln + 1)
/-! ===== as MeetingHouse has them ===== -/
def CV (w : wS) (ns : List (List Int)) (sm k : Nat) (t : Tk) : Prop := match t.1 with
  | 0 => w_a w 1 0 3 k = i_ t.2.1 ∧ 0 ≤ t.2.1 ∧ t.2.1 < 36
  | 1 => ∃ c : Nat, 36 ≤ c ∧ c < ns.length ∧ ns.getD c [] = t.2.2 ∧ w_a w 1 0 3 k = i_ c
  | 2 => w_a w 1 0 3 k = i_ t.2.1
  | 3 => ∃ a : Nat, a + t.2.2.length ≤ sm ∧ t.2.2.length ≤ 60 ∧ w_a w 1 0 3 k = i_ a ∧ w_a w 1 0 4 k = i_ t.2.2.length ∧ ∀ j, j < t.2.2.length → w_a w 1 0 10 (a + j) = i_ (t.2.2.getD j 0)
  | 4 => w_a w 1 0 3 k = i_ t.2.1 ∧ 0 ≤ t.2.1 ∧ t.2.1 < 128
  | 5 => w_a w 1 0 3 k = i_ t.2.1 ∧ 36 ≤ t.2.1 ∧ t.2.1 ≤ 63
  | _ => True
def dep (b : Int) : Int := if b = -1 then 0 else if b % 2 = 0 then b / 2 else -1
def CK (E : zE) (w : wS) (ns : List (List Int)) (sm k : Nat) (t : Tk × Nat × Int) : Prop := w_r w 1 0 2 k = some (E.1.1 t.1.1) ∧ CV w ns sm k t.1 ∧ w_a w 1 0 5 k = i_ t.2.1 ∧ w_a w 1 0 6 k = i_ (dep t.2.2)
theorem getD_pre {ns ns' : List (List Int)} (h : ns <+: ns') {c : Nat} (hc : c < ns.length) : c < ns'.length ∧ ns'.getD c [] = ns.getD c [] := by
  obtain ⟨t, rfl⟩ := h
  refine ⟨by simp; omega, ?_⟩
  rw [List.getD_eq_getElem?_getD, List.getD_eq_getElem?_getD, List.getElem?_append_left hc]
theorem CV.up {w w' : wS} {ns ns' : List (List Int)} {sm sm' k : Nat} {t : Tk} (h : CV w ns sm k t) (h1 : w_a w' 1 0 3 k = w_a w 1 0 3 k) (h2 : w_a w' 1 0 4 k = w_a w 1 0 4 k) (h3 : ns <+: ns') (h4 : sm ≤ sm') (h5 : ∀ j, j < sm → w_a w' 1 0 10 j = w_a w 1 0 10 j) : CV w' ns' sm' k t := by
  obtain ⟨i, v, l⟩ := t
  unfold CV at h ⊢
  simp only at h ⊢
  split
  · exact ⟨h1.trans h.1, h.2⟩
  · obtain ⟨c, a1, a2, a3, a4⟩ := h
    obtain ⟨b1, b2⟩ := getD_pre h3 a2
    exact ⟨c, a1, b1, b2.trans a3, h1.trans a4⟩
  · exact h1.trans h
  · obtain ⟨a, a1, a2, a3, a4, a5⟩ := h
    exact ⟨a, by omega, a2, h1.trans a3, h2.trans a4, fun j hj => (h5 _ (by omega)).trans (a5 j hj)⟩
  · exact ⟨h1.trans h.1, h.2⟩
  · exact ⟨h1.trans h.1, h.2⟩
  · trivial
theorem CK.up {E : zE} {w w' : wS} {ns ns' : List (List Int)} {sm sm' k : Nat} {t : Tk × Nat × Int} (h : CK E w ns sm k t) (h0 : w_r w' 1 0 2 k = w_r w 1 0 2 k) (h1 : w_a w' 1 0 3 k = w_a w 1 0 3 k) (h2 : w_a w' 1 0 4 k = w_a w 1 0 4 k) (h6 : w_a w' 1 0 5 k = w_a w 1 0 5 k) (h7 : w_a w' 1 0 6 k = w_a w 1 0 6 k) (h3 : ns <+: ns') (h4 : sm ≤ sm') (h5 : ∀ j, j < sm → w_a w' 1 0 10 j = w_a w 1 0 10 j) : CK E w' ns' sm' k t := ⟨h0.trans h.1, h.2.1.up h1 h2 h3 h4 h5, h6.trans h.2.2.1, h7.trans h.2.2.2⟩
/-- the tokens so far -/
def TKI (E : zE) (w : wS) (T : Nat → Int) (n : Nat) (ns : List (List Int)) (lm sm : Nat) (K : List (Tk × Nat × Int)) : Prop := (CT w T n ∧ NT2 w ns lm ∧ wds <+: ns) ∧ (w_i w 1 0 7 = i_ K.length ∧ w_i w 1 0 11 = i_ sm) ∧ ∀ k t, K[k]? = some t → CK E w ns sm k t
section TI
variable {E : zE} {w w' : wS} {T : Nat → Int} {n lm sm m : Nat} {ns : List (List Int)} {K : List (Tk × Nat × Int)} {sa : Nat} {v l ln : Int32}
theorem tka_r {k : Nat} : w_r (tk_add w sa m v l ln) 1 0 2 k = if k = m then some sa else w_r w 1 0 2 k := by
  unfold tk_add
  simp only [Rii, Rgi, Rpi, Rai, Rbi, Rri, Rni, Rdi, Roi, Rti, Rzi, RCi, RSi, Ria, Rga, Rpa, Raa, Rba, Rra, Rna, Rda, Roa, Rta, Rza, RCa, RSa, Rir, Rgr, Rpr, Rar, Rbr, Rrr, Rnr, Rdr, Ror, Rtr, Rzr, RCr, RSr]
  simp
theorem tka_3 {k : Nat} : w_a (tk_add w sa m v l ln) 1 0 3 k = if k = m then v else w_a w 1 0 3 k := by
  unfold tk_add
  simp only [Rii, Rgi, Rpi, Rai, Rbi, Rri, Rni, Rdi, Roi, Rti, Rzi, RCi, RSi, Ria, Rga, Rpa, Raa, Rba, Rra, Rna, Rda, Roa, Rta, Rza, RCa, RSa, Rir, Rgr, Rpr, Rar, Rbr, Rrr, Rnr, Rdr, Ror, Rtr, Rzr, RCr, RSr]
  simp
theorem tka_4 {k : Nat} : w_a (tk_add w sa m v l ln) 1 0 4 k = if k = m then l else w_a w 1 0 4 k := by
  unfold tk_add
  simp only [Rii, Rgi, Rpi, Rai, Rbi, Rri, Rni, Rdi, Roi, Rti, Rzi, RCi, RSi, Ria, Rga, Rpa, Raa, Rba, Rra, Rna, Rda, Roa, Rta, Rza, RCa, RSa, Rir, Rgr, Rpr, Rar, Rbr, Rrr, Rnr, Rdr, Ror, Rtr, Rzr, RCr, RSr]
  simp
theorem tka_5 {k : Nat} : w_a (tk_add w sa m v l ln) 1 0 5 k = if k = m then ln else w_a w 1 0 5 k := by
  unfold tk_add
  simp only [Rii, Rgi, Rpi, Rai, Rbi, Rri, Rni, Rdi, Roi, Rti, Rzi, RCi, RSi, Ria, Rga, Rpa, Raa, Rba, Rra, Rna, Rda, Roa, Rta, Rza, RCa, RSa, Rir, Rgr, Rpr, Rar, Rbr, Rrr, Rnr, Rdr, Ror, Rtr, Rzr, RCr, RSr]
  simp
theorem tka_6 {k : Nat} : w_a (tk_add w sa m v l ln) 1 0 6 k = if k = m then 0 else w_a w 1 0 6 k := by
  unfold tk_add
  simp only [Rii, Rgi, Rpi, Rai, Rbi, Rri, Rni, Rdi, Roi, Rti, Rzi, RCi, RSi, Ria, Rga, Rpa, Raa, Rba, Rra, Rna, Rda, Roa, Rta, Rza, RCa, RSa, Rir, Rgr, Rpr, Rar, Rbr, Rrr, Rnr, Rdr, Ror, Rtr, Rzr, RCr, RSr]
  simp
theorem tka_7 : w_i (tk_add w sa m v l ln) 1 0 7 = i_ (m + 1 : Nat) := by
  unfold tk_add
  simp only [Rii, Rgi, Rpi, Rai, Rbi, Rri, Rni, Rdi, Roi, Rti, Rzi, RCi, RSi, Ria, Rga, Rpa, Raa, Rba, Rra, Rna, Rda, Roa, Rta, Rza, RCa, RSa, Rir, Rgr, Rpr, Rar, Rbr, Rrr, Rnr, Rdr, Ror, Rtr, Rzr, RCr, RSr]
  simp
theorem tka_f : frm (pk 1 [2, 3, 4, 5, 6, 7]) w (tk_add w sa m v l ln) := by
  unfold tk_add
  exact (((((frm_r rfl).tr (frm_a rfl)).tr (frm_a rfl)).tr (frm_a rfl)).tr (frm_a rfl)).tr (frm_i rfl)
theorem TKI.strs (h : TKI E w T n ns lm sm K) {l : List Int} : TKI E (sgs w sm l) T n ns lm (sm + l.length) K := by
  obtain ⟨⟨h1, h2, h3⟩, ⟨h4, h5⟩, h6⟩ := h
  have hf : frm (pk 1 [10, 11]) w (sgs w sm l) := sgs_frm
  refine ⟨⟨h1.frm hf ⟨by rfl, by rfl⟩, h2.frm hf (by decide), h3⟩, ⟨by rw [hf.i rfl]; exact h4, sgs_n h5⟩, fun k t hk => ?_⟩
  exact (h6 k t hk).up (hf.r rfl) (hf.a rfl) (hf.a rfl) (hf.a rfl) (hf.a rfl) (List.prefix_refl _) (by omega) (fun j hj => sgs_lo hj)
theorem TKI.nm (h : TKI E w T n ns lm sm K) {s : List Int} {a : Nat} (hr : rowN w 1 0 0 a s) (hs : asc s) (hs16 : s.length ≤ 16) (hroom : ns.length < 1400 ∧ lm + s.length ≤ 4000) (hn : s ∉ ns) : TKI E (nm_add w 1 0 0 a ns.length lm s.length (hsh s) (i_ (prv ns (hsh s) ns.length))) T n (ns ++ [s]) (lm + s.length) sm K := by
  obtain ⟨⟨h1, h2, h3⟩, ⟨h4, h5⟩, h6⟩ := h
  have hf : frm (pk 1 [12, 13, 14, 15, 16, 17, 18]) w (nm_add w 1 0 0 a ns.length lm s.length (hsh s) (i_ (prv ns (hsh s) ns.length))) := nmf
  refine ⟨⟨h1.frm hf ⟨by rfl, by rfl⟩, nm_add_NT h2 hr hs hs16 hroom hn, h3.trans (List.prefix_append _ _)⟩, ⟨by rw [hf.i rfl]; exact h4, by rw [hf.i rfl]; exact h5⟩, fun k t hk => ?_⟩
  exact (h6 k t hk).up (hf.r rfl) (hf.a rfl) (hf.a rfl) (hf.a rfl) (hf.a rfl) (List.prefix_append _ _) (Nat.le_refl _) (fun j hj => hf.a rfl)
theorem TKI.add (h : TKI E w T n ns lm sm K) {i : Nat} {lnn : Nat} {t : Tk} (hi : i = t.1) (hv : CV (tk_add w (E.1.1 i) K.length v l (i_ lnn)) ns sm K.length t) : TKI E (tk_add w (E.1.1 i) K.length v l (i_ lnn)) T n ns lm sm (K ++ [(t, lnn, -1)]) := by
  subst hi
  obtain ⟨⟨h1, h2, h3⟩, ⟨h4, h5⟩, h6⟩ := h
  have hf : frm (pk 1 [2, 3, 4, 5, 6, 7]) w (tk_add w (E.1.1 t.1) K.length v l (i_ lnn)) := tka_f
  refine ⟨⟨h1.frm hf ⟨by rfl, by rfl⟩, h2.frm hf (by decide), h3⟩, ⟨by rw [tka_7]; simp, by rw [hf.i rfl]; exact h5⟩, fun k t' hk => ?_⟩
  by_cases hkl : k < K.length
  · rw [List.getElem?_append_left hkl] at hk
    exact (h6 k t' hk).up (by rw [tka_r, if_neg (by omega)]) (by rw [tka_3, if_neg (by omega)]) (by rw [tka_4, if_neg (by omega)]) (by rw [tka_5, if_neg (by omega)]) (by rw [tka_6, if_neg (by omega)]) (List.prefix_refl _) (Nat.le_refl _) (fun j hj => hf.a rfl)
  · rw [List.getElem?_append_right (by omega)] at hk
    have hk2 : k = K.length := by
      by_cases e : k - K.length = 0
      · omega
      · rw [List.getElem?_eq_none (by simp; omega)] at hk
        cases hk
    subst hk2
    simp at hk
    subst hk
    exact ⟨by rw [tka_r, if_pos rfl], hv, by rw [tka_5, if_pos rfl], by rw [tka_6, if_pos rfl]; rfl⟩
end TI
