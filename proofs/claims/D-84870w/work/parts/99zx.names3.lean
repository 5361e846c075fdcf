/-! ===== ROUNDS, part 5: the round of names: steps ===== -/
section CG
variable {D : pD} {V : pV} {nu : pN} {tn : Nat → Prop} {w w' t t' : wS} {ys ys' : Nat → Option Nat} {s A c k n p q sn un u am am' : Nat} {ck : List (Nat × Int)} {v : Option Nat} {x : Int32}
theorem TLN.i (h : TLN t) (hk : tl14 k = true) (hn : n < 14000) : kx_inb (i_ n) (w_n t 12 0 k) = true := i_inb' (by omega) (by rw [h.1 k hk]; exact hn)
theorem TLN.sy (h : TLN t) (hk : tl61 k = true) (hn : n < 6100) : kx_inb (i_ n) (w_n t 12 0 k) = true := i_inb' (by omega) (by rw [h.2 k hk]; exact hn)
theorem TLN.fr (h : TLN t) (hf : FTn t t') : TLN t' := ⟨fun k hk => by rw [hf.n]; exact h.1 k hk, fun k hk => by rw [hf.n]; exact h.2 k hk⟩
theorem RPR.cg (h : RPR w t ys s A) (hp : w_p w' 15 A 15 = w_p w 15 A 15) (ht : ∀ k, (45 ≤ k ∧ k ≤ 55) → w_a t' 12 0 k s = w_a t 12 0 k s) (h46 : ∀ sp P, ys sp = some P → w_a t' 12 0 46 sp = w_a t 12 0 46 sp) (hy : ∀ sp P, ys sp = some P → ys' sp = some P) : RPR w' t' ys' s A := by
  obtain ⟨sp, P, h1, h2, h3, h4, h5⟩ := h
  exact ⟨sp, P, by rw [hp]; exact h1, hy _ _ h2, by rw [ht 47 (by decide)]; exact h3, h4, by rw [h46 _ _ h2]; exact h5⟩
theorem RS1.cg (h : RS1 D V nu w t ys s A) (hi : ∀ k, w_i w' 15 A k = w_i w 15 A k) (hp : ∀ k, k ≠ 4 → w_p w' 15 A k = w_p w 15 A k) (ht : ∀ k, (45 ≤ k ∧ k ≤ 55) → w_a t' 12 0 k s = w_a t 12 0 k s) (h46 : ∀ sp P, ys sp = some P → w_a t' 12 0 46 sp = w_a t 12 0 46 sp) (hy : ∀ sp P, ys sp = some P → ys' sp = some P) (hl : w_l w' D.1.2.1 15 A) : RS1 D V nu w' t' ys' s A := by
  obtain ⟨⟨h1, -⟩, h2, c, h3, h4, h5, h6, h7, h8, h9⟩ := h
  have e45 := ht 45 (by decide)
  have e46 := ht 46 (by decide)
  have e47 := ht 47 (by decide)
  have e48 := ht 48 (by decide)
  have e49 := ht 49 (by decide)
  have e53 := ht 53 (by decide)
  have e54 := ht 54 (by decide)
  have e55 := ht 55 (by decide)
  refine ⟨⟨h1, hl⟩, by rw [hi, e45]; exact h2, c, h3, by rw [e46]; exact h4, by rw [hp 0 (by decide)]; exact h5, by rw [hi]; exact h6, ?_, ?_, ?_⟩
  · unfold RTY at h7 ⊢
    rw [hi, hp 15 (by decide), e47]
    rcases h7 with h7 | ⟨a, b, h7⟩ | h7 | h7 | ⟨a, h7⟩
    · exact .inl h7
    · exact .inr (.inl ⟨a, b, h7.imp id (fun h7 => h7.cg (hp 15 (by decide)) ht h46 hy)⟩)
    · exact .inr (.inr (.inl h7))
    · exact .inr (.inr (.inr (.inl h7)))
    · exact .inr (.inr (.inr (.inr ⟨a, h7.cg (hp 15 (by decide)) ht h46 hy⟩)))
  · unfold RAR at h8 ⊢
    rw [hi, hi, e48]
    exact h8
  · unfold RND RNk RN0 at h9 ⊢
    simp only [hi, hp 17 (by decide), hp 18 (by decide), hp 19 (by decide), e49, e53, e54, e55]
    exact h9
theorem SERn.ama (h : SERn w t ys sn am ck) (ha : am ≤ am') : SERn w t ys sn am' ck := by
  obtain ⟨⟨z, h1, h2, h3⟩, h4⟩ := h
  exact ⟨⟨z, h1, Nat.le_trans h2 ha, h3⟩, h4⟩
theorem SERn.cg (h : SERn w t ys sn am ck) (hi : ∀ s A, ys s = some A → w_i w' 15 A 3 = w_i w 15 A 3) (h5 : w_i w' 5 0 4 = w_i w 5 0 4) (h46 : ∀ s A, ys s = some A → w_a t' 12 0 46 s = w_a t 12 0 46 s) : SERn w' t' ys sn am ck := by
  have hn : ∀ s A, ys s = some A → nrt t' s → nrt t s := fun s A h1 h2 => by
    unfold nrt at h2 ⊢
    rw [h46 s A h1] at h2
    exact h2
  have hs : ∀ s A, ys s = some A → ser w' A = ser w A := fun s A h1 => by
    unfold ser
    rw [hi s A h1]
  obtain ⟨⟨z, h1, h1b, h2, h3⟩, h4, h6⟩ := h
  refine ⟨⟨z, by rw [h5]; exact h1, h1b, fun s A a b => by rw [hs s A a]; exact h2 s A a (hn s A a b), h3⟩, fun s A s' A' a b c d e => by rw [hs s A a, hs s' A' b]; exact h4 s A s' A' a b (hn s A a c) (hn s' A' b d) e, fun q hq s A a b => by rw [hs s A a]; exact h6 q hq s A a (hn s A a b)⟩
theorem CHN.cg (hp : ∀ s A, ys s = some A → w_p w' 15 A 4 = w_p w 15 A 4) : ∀ {l : List Nat} {x : Option Nat}, CHN w ys l x → CHN w' ys l x
  | [], _, h => h
  | s :: l, x, h => by
    obtain ⟨h1, A, h2, h3⟩ := h
    exact ⟨h1, A, h2, by rw [hp s A h2]; exact CHN.cg hp h3⟩
theorem KNr.cg (ht : w_a t' 12 0 57 = w_a t 12 0 57) : ∀ {l : List Nat}, KNr t l → KNr t' l
  | [], h => h
  | s :: l, h => ⟨by rw [ht]; exact h.1, KNr.cg ht h.2⟩
theorem uch.cg (ht : w_a t' 12 0 60 = w_a t 12 0 60) : ∀ {k u x : Nat}, uch t k u x → uch t' k u x
  | 0, _, _, h => h
  | k + 1, u, x, h => by
    obtain ⟨y, h1, h2⟩ := h
    exact ⟨y, ⟨h1.1, by rw [ht]; exact h1.2⟩, uch.cg ht h2⟩
theorem uch.lt {m : Nat} (ht : ∀ y, y < m → w_a t' 12 0 60 y = w_a t 12 0 60 y) : ∀ {k u x : Nat}, u < m → uch t k u x → uch t' k u x
  | 0, _, _, _, h => h
  | k + 1, u, x, hu, h => by
    obtain ⟨y, h1, h2⟩ := h
    exact ⟨y, ⟨h1.1, by rw [ht u hu]; exact h1.2⟩, uch.lt ht (by omega) h2⟩
theorem UNI.cg (h : UNI t sn un) (ht : ∀ k, tl61 k = true → w_a t' 12 0 k = w_a t 12 0 k) : UNI t' sn un := by
  have e : ∀ s, lyk t' s = lyk t s := fun s => by
    unfold lyk
    rw [ht 46 rfl, ht 48 rfl]
  unfold UNI at h ⊢
  simp only [e, ht 60 rfl, ht 61 rfl, ht 51 rfl, ht 52 rfl]
  exact h
/-- the twin's heap changes beside symbols -/
theorem IVN.tw {rt : Nat} {S : nS} (h : IVN D V nu tn rt S) (ha : ∀ k, tl61 k = true → w_a t' 12 0 k = w_a S.t 12 0 k) (hi : ∀ k, (k = 44 ∨ k = 56 ∨ k = 59 ∨ k = 62) → w_i t' 12 0 k = w_i S.t 12 0 k) (hf : fkk (w_i t' 12 0 64)) (hT : TRTn V tn t') : IVN D V nu tn rt (S.wt S.w t') := by
  obtain ⟨⟨a1, a2⟩, a3, ⟨⟨b1, b2⟩, ⟨b3, b4⟩, b5, b6⟩, ⟨c1, c2, c3⟩, d1, ⟨e1, e2, e3, e4, e5⟩, ⟨f1, f2⟩, g1⟩ := h
  refine ⟨⟨a1, hT⟩, a3, ⟨⟨?_, b2⟩, ⟨?_, b4⟩, ?_, b6⟩, ⟨fun s A hs => ⟨(c1 s A hs).1, (c1 s A hs).2.cg (fun _ => rfl) (fun _ _ => rfl) (fun k hk => congrFun (ha k ?_) s) (fun sp P _ => congrFun (ha 46 rfl) sp) (fun _ _ h => h) (c1 s A hs).2.1.2⟩, c2, c3.cg (fun _ _ _ => rfl) rfl (fun s _ _ => congrFun (ha 46 rfl) s)⟩, d1.cg ha, ⟨e1, ?_, e3.cg (ha 57 rfl), e4, fun s hs => ?_⟩, ⟨f1, hf⟩, g1⟩
  · exact (hi 44 (by decide)).trans b1
  · exact (hi 59 (by decide)).trans b3
  · exact (hi 62 (by decide)).trans b5
  · have : ∀ k, k < 56 → 45 ≤ k → tl61 k = true := by decide
    exact this k (by omega) hk.1
  · exact (hi 56 (by decide)).trans e2
  · obtain ⟨q1, q2, x, k, q3, q4⟩ := e5 s hs
    exact ⟨q1, q2, x, k, (congrFun (ha 51 rfl) s).trans q3, q4.cg (ha 60 rfl)⟩
/-- MeetingHouse's heap changes beside symbols -/
theorem IVN.cw {rt : Nat} {S : nS} (h : IVN D V nu tn rt S) (h15 : ∀ s A, S.ys s = some A → ∀ k, w_i w' 15 A k = w_i S.w 15 A k ∧ w_p w' 15 A k = w_p S.w 15 A k) (h5 : w_i w' 5 0 4 = w_i S.w 5 0 4 ∧ w_p w' 5 0 3 = w_p S.w 5 0 3) (ho : w_o w' = w_o S.w) (hS : SSO D.1 w' S.al S.am) (hf : fkk (w_i w' 2 0 1)) (hT : TRCn D V nu w') : IVN D V nu tn rt (S.wt w' S.t) := by
  obtain ⟨⟨a1, a2⟩, ⟨a3, a3b⟩, b0, ⟨c1, c2, c3⟩, d1, ⟨⟨e1, e1b⟩, e2⟩, ⟨f1, f2⟩, g1⟩ := h
  refine ⟨⟨hT, a2⟩, ⟨hS, a3b⟩, b0, ⟨fun s A hs => ⟨(c1 s A hs).1, (c1 s A hs).2.cg (fun k => (h15 s A hs k).1) (fun k _ => (h15 s A hs k).2) (fun _ _ => rfl) (fun _ _ _ => rfl) (fun _ _ h => h) ?_⟩, c2, c3.cg (fun s A hs => (h15 s A hs 3).1) h5.1 (fun _ _ _ => rfl)⟩, d1, ⟨⟨?_, e1b⟩, e2⟩, ⟨hf, f2⟩, g1⟩
  · have := (c1 s A hs).2.1.2
    show w_o w' _ = _
    rw [ho]
    exact this
  · show CHN w' S.ys S.kc (w_p w' 5 0 3)
    rw [h5.2]
    exact e1.cg (fun s A hs => (h15 s A hs 4).2)
theorem TRCn.p16 (h : TRCn D V nu w) : TRCn D V nu (ws_p w 14 p 16 v) := fun a ha => by
  obtain ⟨h1, h2, h3, h4⟩ := h a ha
  exact ⟨h1, fun k hk => by rw [Rpp, if_neg (fun z => hk z.1)]; exact h2 k hk, h3, h4⟩
theorem TRCn.rul (h : TRCn D V nu w) {T : Int} : TRCn D V nu (ru w T) := by
  unfold ru
  split
  · exact h
  · intro a ha
    obtain ⟨h1, h2, h3, h4⟩ := h a ha
    refine ⟨h1, h2, fun k hk => ?_, h4.imp id (fun h4 => ?_)⟩
    · rw [Rii, if_neg (fun z => absurd z.2.1 (by decide)), Rii, if_neg (fun z => absurd z.2.1 (by decide))]
      exact h3 k hk
    · rw [Rii, if_neg (fun z => absurd z.2.1 (by decide)), Rii, if_neg (fun z => absurd z.2.1 (by decide))]
      exact h4
theorem TRTn.a (h : TRTn V tn t) {j : Nat} (hk : tlr k = false) : TRTn V tn (ws_a t 12 0 k j x) := ⟨h.1, fun n hn k' hk' => by
  rw [Raa, if_neg (fun z => by rw [z.1, hk] at hk'; cases hk')]
  exact h.2 n hn k' hk'⟩
end CG
