/-! ===== ROUNDS, part 60: what the parser leaves, for the rounds ===== -/
/-- the same with less told -/
def nuW (nu : pNz) : pN := fun a => match nu a with
  | none => none
  | some x => some (x.1, x.2.1.1, x.2.2)
section WEA
variable {D : pD} {V : pV} {tn T2 : Nat → Prop} {nu : pNz} {k d p n n2 m N kd cl s e : Nat} {ol : pOL} {O : pO} {g : Nat → Nat} {a b : Option Nat} {x y op ch vl ty sp : Int32} {r : pR} {al : List Nat}
theorem nuW_s {a : Nat} (h : nu a = some (n, r, d)) : nuW nu a = some (n, r.1, d) := by
  unfold nuW
  rw [h]
theorem nuW_i {a z : Nat} (h : nuW nu a = some (n, z, d)) : ∃ r : pR, nu a = some (n, r, d) ∧ r.1 = z := by
  unfold nuW at h
  cases e : nu a with
  | none => rw [e] at h; cases h
  | some q =>
    obtain ⟨n', r', d'⟩ := q
    rw [e] at h
    cases h
    exact ⟨r', rfl, rfl⟩
theorem nuW_n {a : Nat} (h : nuW nu a ≠ none) : nu a ≠ none := fun e => h (by unfold nuW; rw [e])
theorem CHz.w (h : CHz V tn nu k ol n p d) : CHx V tn (nuW nu) ol.2.2.1 ol.1 n p d := by
  obtain ⟨m, c, r, h1, h2, h3, h4, h5, h6, h7, h8, h9⟩ := h
  exact ⟨m, c, r.1, h1, h2, nuW_s h3, ⟨h8, h4⟩, h5, h6⟩
theorem LPz.w : ∀ {l : List (Nat × Nat × Nat)} {ol : pOL} {a : Option Nat} {x : Int32}, LPz V tn nu k ol l a x b y → LPx V tn (nuW nu) ol.2.2.1 ol.1 l a x b y
  | [], _, _, _, h => h
  | q :: r, ol, a, x, h => by
    obtain ⟨h1, h2, e1, h3, h4, h5⟩ := h
    exact ⟨h1, h2, h4.w, LPz.w (ol := (ol.1, ol.2.1, ol.2.2.1, ol.2.2.2.1, e1, ol.2.2.2.2.2)) h5⟩
theorem ECz.w (h : ECz V tn nu k ol d a x) : EC V tn (nuW nu) ol.2.2.1 ol.1 d a x := by
  obtain ⟨p, n, h1, h2, h3⟩ := h
  exact ⟨p, n, h1, h2, h3.w⟩
theorem EOz.w (h : EOz V tn nu k ol d a x) : EO V tn (nuW nu) ol.2.2.1 ol.1 d a x := h.elim .inl (fun h => .inr h.w)
theorem EEz.w (h : EEz V tn nu k ol a x) : EE V tn (nuW nu) ol.2.2.1 ol.1 a x := by
  obtain ⟨p, n, h1, h2, h3, h4⟩ := h
  exact ⟨p, n, h1, h2, h3.w, h4⟩
theorem SLz.w (h : SLz V tn nu k ol d a x) : SL V tn (nuW nu) ol.2.2.1 ol.1 d a x := by
  obtain ⟨l, h1, h2⟩ := h
  exact ⟨l, LPz.w h1, h2⟩
theorem S1z.w (h : S1z V tn nu k ol d a x) : S1 V tn (nuW nu) ol.2.2.1 ol.1 d a x := by
  obtain ⟨l, h1, h2⟩ := h
  exact ⟨l, LPz.w h1, h2⟩
theorem SKz.w (h : SKz V tn nu k ol d kd a x) : SK V tn (nuW nu) ol.2.2.1 ol.1 d kd a x := by
  obtain ⟨l, h1, h2⟩ := h
  exact ⟨l, LPz.w h1, h2⟩
theorem SK1z.w (h : SK1z V tn nu k ol d kd a x) : SK1 V tn (nuW nu) ol.2.2.1 ol.1 d kd a x := by
  obtain ⟨l, h1, h2⟩ := h
  exact ⟨l, LPz.w h1, h2⟩
theorem LEz.w (h : LEz V tn nu k ol a x) : LE V tn (nuW nu) ol.2.2.1 ol.1 a x := by
  obtain ⟨l, h1, h2⟩ := h
  exact ⟨l, LPz.w h1, h2⟩
theorem LNz.w (h : LNz V tn nu k ol d a x) : LN V tn (nuW nu) ol.2.2.1 ol.1 d a x := by
  obtain ⟨l, h1, h2⟩ := h
  exact ⟨l, LPz.w h1, h2⟩
theorem SRz.w (h : SRz V tn nu k g s e cl d a x b y) : SR V tn (nuW nu) k d a x b y := by
  obtain ⟨l, e1, h0, h1, h2, h3⟩ := h
  exact ⟨l, LPz.w h1, h2, h3.elim .inl (fun h => .inr ⟨h.1.w, h.2⟩)⟩
theorem KN.w (h : KN D V nu a x) : KN D V (nuW nu) a x := by
  obtain ⟨p, h1, h2, ⟨r, d, h3⟩, h4⟩ := h
  exact ⟨p, h1, h2, ⟨r.1, d, nuW_s h3⟩, h4⟩
theorem KSP.w {word : Int32} (h : KSP D V nu word a op ch vl ty sp) : KSP D V (nuW nu) word a op ch vl ty sp := by
  obtain ⟨o, v, h1, h2, h3⟩ := h
  exact ⟨o, v, h1, h2, h3.elim .inl (fun h => .inr ⟨h.1, h.2.1.w, h.2.2⟩)⟩
theorem KDN.w {q : Nat} (h : KDN nu q) : KDN (nuW nu) q := by
  obtain ⟨r, d, h⟩ := h
  exact ⟨r.1, d, nuW_s h⟩
theorem INJ.w (h : INJ nu) : INJ (nuW nu) := fun a a' n r d r' d' h1 h2 h3 => by
  obtain ⟨q, g1, -⟩ := nuW_i h1
  obtain ⟨q', g2, -⟩ := nuW_i h2
  exact h a a' n q d q' d' g1 g2 h3
theorem LFgz.w (h : LFgz V tn T2 nu k O d p n n2) : LFg V tn T2 (nuW nu) k d p n n2 := by
  obtain ⟨h1, h2, h3⟩ := h
  refine ⟨h1, h2, ?_⟩
  rcases h3 with h3 | h3 | h3 | h3
  · exact .inl ⟨h3.1, h3.2.1, h3.2.2.1, h3.2.2.2.w⟩
  · exact .inr (.inl ⟨h3.1, h3.2.1, h3.2.2.1.w, h3.2.2.2.1.w, h3.2.2.2.2.w⟩)
  · exact .inr (.inr (.inl ⟨h3.1, h3.2.1, h3.2.2.1.w, h3.2.2.2.1.w, h3.2.2.2.2.w⟩))
  · exact .inr (.inr (.inr ⟨h3.1, h3.2.1, h3.2.2.1.w, h3.2.2.2.1.w, h3.2.2.2.2⟩))
theorem ow1 {l : Option Int32} {c : Nat} : OLw (l, c, k - 1, O) (l, c, k, O) := ⟨fun _ h => h, rfl, Nat.sub_le _ _, rfl, Nat.le_refl _, Nat.le_refl _⟩
theorem S1z.wk1 {l : Option Int32} {c : Nat} (h : S1z V tn nu k (l, c, k - 1, O) d a x) : S1z V tn nu k (l, c, k, O) d a x := by
  obtain ⟨q, h1, h2⟩ := h
  exact ⟨q, LPz.wk h1 ow1, h2⟩
theorem LFkz.w (h4 : LFkz D V tn T2 nu k O d p n kd) : LFk D V tn T2 (nuW nu) k d p n kd := by
  unfold LFkz at h4
  unfold LFk
  split at h4
  · exact h4
  · exact h4
  · exact h4
  · exact h4
  · exact h4
  · exact h4
  · exact h4
  · exact ⟨h4.1, h4.2.1, h4.2.2.1, h4.2.2.2.w⟩
  · exact ⟨h4.1, h4.2.1, h4.2.2.wk1.w⟩
  · exact ⟨h4.1, h4.2.1, h4.2.2.1, (h4.2.2.2.wk (k' := k) ow1).w⟩
  · exact ⟨h4.1, h4.2.1, h4.2.2.1, (h4.2.2.2.wk (k' := k) ow1).w⟩
  · exact ⟨h4.1, h4.2.1, h4.2.2.1, h4.2.2.2.1.w⟩
  · exact ⟨h4.1, h4.2.1, h4.2.2.1, (h4.2.2.2.1.wk (k' := k) ow1).w, (h4.2.2.2.2.wk (k' := k) ow1).w⟩
  · exact ⟨h4.1, h4.2.1, h4.2.2.1, h4.2.2.2.w⟩
  · obtain ⟨q1, d1, d2, e1, q2, q2b, q3, q4⟩ := h4
    exact ⟨q1, d1, d2, q2, q3.w, q4.w⟩
  · exact h4
  · exact h4
  · exact ⟨h4.1, h4.2.1, h4.2.2.1.w, h4.2.2.2.w⟩
  · exact ⟨h4.1, h4.2.1, h4.2.2.1.w, h4.2.2.2.w⟩
  · exact ⟨h4.1, h4.2.1, h4.2.2.1.w, h4.2.2.2.w⟩
  · exact ⟨h4.1, h4.2.1.w, h4.2.2.w⟩
  · exact ⟨h4.1, h4.2.1, h4.2.2.1.w, h4.2.2.2.w⟩
  · exact ⟨h4.1, h4.2.1, h4.2.2.1, h4.2.2.2.w⟩
  · exact ⟨h4.1, h4.2.w⟩
  · exact ⟨h4.1, h4.2.w⟩
  · exact ⟨h4.1, h4.2.2.w⟩
  · exact ⟨h4.1, h4.2.2.1.w, h4.2.2.2.w⟩
  · exact ⟨h4.1, h4.2.1.w, h4.2.2.w⟩
  · exact ⟨h4.1, h4.2.1.w, h4.2.2.elim .inl (fun h => .inr ⟨h.1, h.2.w⟩)⟩
  · exact ⟨h4.1, h4.2.1.w, h4.2.2.w⟩
  · exact ⟨h4.1, h4.2.1, h4.2.2.w⟩
  · obtain ⟨q1, q2, n2, q3, q4⟩ := h4
    exact ⟨q1, q2.w, n2, q3, q4.w⟩
  · exact ⟨h4.1, h4.2.1, h4.2.2.1.elim .inl (fun h => .inr h.w), h4.2.2.2.w⟩
  · exact ⟨h4.1, h4.2.1, h4.2.2.1, h4.2.2.2.1.w, h4.2.2.2.2.w⟩
  · exact ⟨h4.1, h4.2.1, h4.2.2.1, h4.2.2.2.1.elim .inl (fun h => .inr ⟨h.1.w, h.2⟩), h4.2.2.2.2.w⟩
  · exact ⟨h4.1, h4.2.1, h4.2.2.1.w, h4.2.2.2.1.elim .inl (fun h => .inr ⟨h.1.w, h.2⟩), h4.2.2.2.2.w⟩
  · exact ⟨h4.1, h4.2.2.1, h4.2.2.2.1, h4.2.2.2.2.1, h4.2.2.2.2.2.1, h4.2.2.2.2.2.2.w⟩
  · exact ⟨h4.1, h4.2.1, h4.2.2.1, h4.2.2.2.1.w, h4.2.2.2.2⟩
  · exact ⟨h4.1, h4.2.1, h4.2.2.1, h4.2.2.2.1.w, h4.2.2.2.2.w⟩
  · exact ⟨h4.1, h4.2.1, h4.2.2.1, h4.2.2.2.w⟩
  · exact ⟨h4.1, h4.2.1, h4.2.2.1, h4.2.2.2.w⟩
  · obtain ⟨q1, q2, q3, d2, q4, q5⟩ := h4
    exact ⟨q1, q2, q3.w, d2, q4, q5.w⟩
  · obtain ⟨q1, q2, q3, q4, q5⟩ := h4
    refine ⟨q1, q2, q3, q4.w, ?_⟩
    rcases q5 with q5 | ⟨q5, d1, d2, e1, e2, q6, q6b, q7, q8, q9⟩
    · exact .inl ⟨q5.1, q5.2.1.w, q5.2.2⟩
    · exact .inr ⟨q5, d1, d2, q6, q7.w, q8.w, q9.w⟩
  · exact h4
  · exact ⟨h4.1, h4.2.1, h4.2.2.1, h4.2.2.2.elim .inl (fun h => .inr ⟨h.1.w, h.2⟩)⟩
  · exact ⟨h4.1, h4.2.1, h4.2.2.1, h4.2.2.2.w⟩
  · exact ⟨h4.1, h4.2.1, h4.2.2.1, h4.2.2.2.w⟩
  · exact h4.elim
theorem LFz.w (h : LFz D V tn T2 nu r d p n) : LF D V tn T2 (nuW nu) r.1 d p n := by
  obtain ⟨h1, kd, h2, h3, -, h4⟩ := h
  exact ⟨h1.1, kd, h2, h3, h4.w⟩
theorem GLz.w (h : GLz D V al m N nu tn) : GL D V al m N (nuW nu) tn := ⟨fun a n z d e => by
  obtain ⟨r, g1, g2⟩ := nuW_i e
  obtain ⟨q1, q2⟩ := h.1 a n r d g1
  rw [← g2]
  exact ⟨q1, q2.elim .inl (fun q => .inr ⟨q.1, q.2.1, q.2.2.w⟩)⟩, h.2⟩
end WEA
section PRS
variable {D : pD} {K : pK} {w t : wS} {al : List Nat} {nu : pNz} {tn : Nat → Prop} {p q o o' m N b : Nat}
theorem nd_sub : ∀ {l s : List Nat}, l.Nodup → (∀ a ∈ l, a ∈ s) → l.length ≤ s.length
  | [], _, _, _ => Nat.zero_le _
  | a :: l, s, hn, hs => by
    rw [List.nodup_cons] at hn
    have ha := hs a List.mem_cons_self
    have h1 := nd_sub (l := l) (s := s.erase a) hn.2 (fun b hb => (List.mem_erase_of_ne (fun e => hn.1 (by rw [← e]; exact hb))).mpr (hs b (List.mem_cons_of_mem _ hb)))
    have h2 := List.length_erase_of_mem ha
    have h3 : 0 < s.length := List.length_pos_of_mem ha
    rw [List.length_cons]
    omega
/-- the tree that the parser leaves is one as the rounds want it -/
theorem SY.strN (h : SY D K (w, t, al, m, N, nu, tn) p q o o') (hnd : NDD D) (hK : K.length ≤ 1375) (hm : m ≤ 4 * K.length ∧ N ≤ 4 * K.length) (hr : NRw w (al.take m) b) : STR D (vw w t) (nuW nu) tn b := by
  obtain ⟨⟨⟨⟨hKC, -⟩, -⟩, -, -, hUP, hIJ⟩, -, hS, -, hG⟩ := h
  obtain ⟨hG1, hG2⟩ := hG.w
  have hU : ∀ a, nuW nu a ≠ none → a ∈ al.take m := fun a ha => by
    cases e : nuW nu a with
    | none => exact absurd e ha
    | some x => exact (hG1 a x.1 x.2.1 x.2.2 e).1
  have hN : ∀ n, tn n → n < 14000 := fun n hn => by
    have h1 : n < N := hG2 n hn
    omega
  refine ⟨⟨hKC.1, hnd⟩, fun a n r d e => (hG1 a n r d e).2, hN, INJ.w hIJ, fun a a' j j' x ha ha' hj hj' e e' => ?_, fun a j ha hj => ?_, fun l hl hla => ?_⟩
  · rcases (hUP a (hU a ha) j hj.1 hj.2 x e).2 with h | h
    · exact .inl (KDN.w h)
    · exact .inr (h a' (hU a' ha') j' hj'.1 hj'.2 e')
  · exact hr a (hU a ha) j hj.1 hj.2
  · have h1 := nd_sub hl (fun a ha => hU a (hla a ha))
    have h2 : (al.take m).length ≤ m := by
      rw [List.length_take]
      exact Nat.min_le_left _ _
    omega
theorem SY.trcN (h : SY D K (w, t, al, m, N, nu, tn) p q o o') : TRCn D (vw w t) (nuW nu) w := fun a ha => by
  have ha := nuW_n ha
  have hU : a ∈ al.take m := by
    cases e : nu a with
    | none => exact absurd e ha
    | some x => exact (h.2.2.2.2.1 a x.1 x.2.1 x.2.2 e).1
  exact ⟨(h.2.2.1.2.2.2.2.1 a (List.mem_of_mem_take hU)).1, fun _ _ => rfl, fun _ _ => rfl, .inr rfl⟩
theorem TLN.trt (h : TLN t) : TRTn (vw w t) tn t := ⟨h, fun _ _ _ _ => rfl⟩
end PRS
